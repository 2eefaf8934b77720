/-! WALKS -/
set_option maxRecDepth 100000
/-! IslandHeapModel.place()I -/
abbrev rm_X2_place : Room := { frames := 3, cells := 0, slots := 0, locals := 64 }
set_option maxHeartbeats 4000000 in
theorem m_X2_place (l : Launch) (G : mm_G) (h0 : Nat) (σ : mm_M) (σf : mm_M) (rr : Int32) (hf : f_X2_place h0 σ = some (rr, σf)) : Met l yX2_place (ws_ yX2_place cX2_place 1 ((Option.some .int))) rm_X2_place (mm_Pc G [.ref h0] σ) (mm_Qi G rr σf) 0 0 (mm_A G) := by
  refine mm_met (by decide) rfl rfl (by  exact Nat.le_of_ble_eq_true rfl) (fun p e s m below meth c ls F hH hr hlocks hname hl => ?_)
  have hl : lv_has ls 1 [(0, .ref h0)] := by  exact hl
  have F : mm_F p s m _ c RX2 cX2_place 1 G := F
  have hx := F.1
  have hb := F.2.1
  have hml := F.2.2.1
  have hown := F.2.2.2.1
  have hts := F.2.2.2.2.1
  unfold f_X2_place at hf
  refine lv_aload_n hx hb dX2_place_0 rfl (lv_at hl 0 rfl) ?_
  replace hf := b1_i hf
  obtain ⟨v1, e1, hf⟩ := hf
  refine mm_getI F hH mc_2 (k := 16) (by decide) (hts _ q1063) (fun _ h => h) e1 dX2_place_1 ?_
  refine lv_iconst (v := (-1)) hx hb dX2_place_4 (by decide) ?_
  refine lv_icmp_ne (tgt := 33) hx hb dX2_place_5 (by decide) (fun c2 => ?_) (fun c2 => ?_)
  · rw [if_neg c2] at hf
    refine lv_aload_n hx hb dX2_place_33 rfl (lv_at hl 0 rfl) ?_
    replace hf := b1_i hf
    obtain ⟨u, e2, hf⟩ := hf
    obtain ⟨fs, ek⟩ := ck_i e2
    replace hf := b2_i hf
    obtain ⟨v3, σ4, e3, hf⟩ := hf
    refine mm_ci (va_runV (As := []) (rest := []) ⟨hx, hb, hml, hown, hts⟩ (m_X2_number l G h0 σ σ4 v3 e3) (cwV 0 hts (lw_V q1303 q1305 qs58 q67 q1306) rfl rfl rfl (by decide +kernel) ⟨Nat.le_of_ble_eq_true rfl, Nat.le_of_ble_eq_true rfl⟩) (mm_preV F.2.2.2.2.2 hH (ci := 2) rfl ek) rfl rfl hl.1 rfl (lv_room (Nat.le_of_ble_eq_true rfl)) dX2_place_34 ⟨Nat.le_of_ble_eq_true rfl, Nat.le_of_ble_eq_true rfl⟩) hH (fun H locs hH => ?_)
    obtain ⟨h1, h2⟩ := Prod.mk.inj (Option.some.inj hf)
    subst h1
    subst h2
    exact mm_reti F hH hr hlocks rfl rfl dX2_place_37
  · rw [if_pos c2] at hf
    refine lv_aload_n hx hb dX2_place_8 rfl (lv_at hl 0 rfl) ?_
    replace hf := b1_i hf
    obtain ⟨u, e4, hf⟩ := hf
    obtain ⟨fs, ek⟩ := ck_i e4
    replace hf := b1_i hf
    obtain ⟨v5, e5, hf⟩ := hf
    refine mm_ci (va_runV (As := []) (rest := []) ⟨hx, hb, hml, hown, hts⟩ (m_X2_next_2 l G h0 σ v5 e5) (cwV 0 hts (lw_V q1279 q1281 qs52 q67 q1282) rfl rfl rfl (by decide +kernel) ⟨Nat.le_of_ble_eq_true rfl, Nat.le_of_ble_eq_true rfl⟩) (mm_preV F.2.2.2.2.2 hH (ci := 2) rfl ek) rfl rfl hl.1 rfl (lv_room (Nat.le_of_ble_eq_true rfl)) dX2_place_9 ⟨Nat.le_of_ble_eq_true rfl, Nat.le_of_ble_eq_true rfl⟩) hH (fun H locs hH => ?_)
    refine lv_bipush (v := 45) hx hb dX2_place_12 (by decide) ?_
    refine lv_icmp_ne (tgt := 33) hx hb dX2_place_14 (by decide) (fun c6 => ?_) (fun c6 => ?_)
    · rw [if_neg c6] at hf
      refine lv_aload_n hx hb dX2_place_33 rfl (lv_at hl 0 rfl) ?_
      replace hf := b1_i hf
      obtain ⟨u, e6, hf⟩ := hf
      obtain ⟨fs, ek⟩ := ck_i e6
      replace hf := b2_i hf
      obtain ⟨v7, σ8, e7, hf⟩ := hf
      refine mm_ci (va_runV (As := []) (rest := []) ⟨hx, hb, hml, hown, hts⟩ (m_X2_number l G h0 σ σ8 v7 e7) (cwV 0 hts (lw_V q1303 q1305 qs58 q67 q1306) rfl rfl rfl (by decide +kernel) ⟨Nat.le_of_ble_eq_true rfl, Nat.le_of_ble_eq_true rfl⟩) (mm_preV F.2.2.2.2.2 hH (ci := 2) rfl ek) rfl rfl hl.1 rfl (lv_room (Nat.le_of_ble_eq_true rfl)) dX2_place_34 ⟨Nat.le_of_ble_eq_true rfl, Nat.le_of_ble_eq_true rfl⟩) hH (fun H locs hH => ?_)
      obtain ⟨h1, h2⟩ := Prod.mk.inj (Option.some.inj hf)
      subst h1
      subst h2
      exact mm_reti F hH hr hlocks rfl rfl dX2_place_37
    · rw [if_pos c6] at hf
      refine lv_aload_n hx hb dX2_place_17 rfl (lv_at hl 0 rfl) ?_
      refine lv_dup hx hb dX2_place_18 rfl ?_
      replace hf := b1_i hf
      obtain ⟨v9, e8, hf⟩ := hf
      refine mm_getI F hH mc_2 (k := 15) (by decide) (hts _ q1062) (fun _ h => h) e8 dX2_place_19 ?_
      refine lv_iconst (v := 1) hx hb dX2_place_22 (by decide) ?_
      refine lv_iadd hx hb dX2_place_23 ?_
      replace hf := b1_i hf
      obtain ⟨σ10, e9, hf⟩ := hf
      refine mm_put F hH mc_2 (k := 15) (v := vI (v9 + (1 : Int32))) (by decide) (hts _ q1062) (fun _ h => h) rfl rfl rfl e9 dX2_place_24 (fun H locs hH => ?_)
      refine lv_aload_n hx hb dX2_place_27 rfl (lv_at hl 0 rfl) ?_
      replace hf := b1_i hf
      obtain ⟨u, e10, hf⟩ := hf
      obtain ⟨fs, ek⟩ := ck_i e10
      replace hf := b1_i hf
      obtain ⟨σ11, e11, hf⟩ := hf
      refine mm_cv (va_runV (As := []) (rest := []) ⟨hx, hb, hml, hown, hts⟩ (m_X2_blanks l G h0 σ10 σ11 e11) (cwV 0 hts (lw_V q1275 q1277 qs51 q67 q1278) rfl rfl rfl (by decide +kernel) ⟨Nat.le_of_ble_eq_true rfl, Nat.le_of_ble_eq_true rfl⟩) (mm_preV F.2.2.2.2.2 hH (ci := 2) rfl ek) rfl rfl hl.1 rfl (lv_room (Nat.le_of_ble_eq_true rfl)) dX2_place_28 ⟨Nat.le_of_ble_eq_true rfl, Nat.le_of_ble_eq_true rfl⟩) hH (fun H locs hH => ?_)
      refine lv_iconst (v := (-1)) hx hb dX2_place_31 (by decide) ?_
      obtain ⟨h1, h2⟩ := Prod.mk.inj (Option.some.inj hf)
      subst h1
      subst h2
      exact mm_reti F hH hr hlocks rfl rfl dX2_place_32
/-! IslandHeapModel.reads()V -/
abbrev rm_X2_reads : Room := { frames := 4, cells := 0, slots := 0, locals := 84 }
set_option maxHeartbeats 4000000 in
theorem w_X2_reads_215 {p : Program} {l : Launch} {e : Env} {s : State} {m : MethodId} {av : Array Value} {below : List Frame} {meth : Method} {c : Code} {G : mm_G} {σf : mm_M}  {h0 : Nat} (F : mm_F p s m av c RX2 cX2_reads 3 G) (hr : meth.sig.returnType = (Option.none : Option Jvm.ClassFile.FieldType)) (hlocks : meth.locks = false) (hname : meth.name = yX2_reads.name)     (σ : mm_M) (hf : g_X2_reads_215 h0 σ = some σf) {H : Heap} {locs : List Loc} {ls : Array Slot} (hH : mm_H G s σ H locs) (hl : lv_has ls 3 [(0, .ref h0)]) : W p l e rm_X2_reads s m av below meth c H locs 0 0 (MQ below (mm_Qv G σf) av s 0 0 (mm_A G)) (F0 m 215 ls []) := by
  have hx := F.1
  have hb := F.2.1
  have hml := F.2.2.1
  have hown := F.2.2.2.1
  have hts := F.2.2.2.2.1
  unfold g_X2_reads_215 at hf
  refine lv_aload_n hx hb dX2_reads_215 rfl (lv_at hl 0 rfl) ?_
  replace hf := b1_i hf
  obtain ⟨v1, e1, hf⟩ := hf
  refine mm_getI F hH mc_2 (k := 16) (by decide) (hts _ q1063) (fun _ h => h) e1 dX2_reads_216 ?_
  refine lv_iconst (v := (-1)) hx hb dX2_reads_219 (by decide) ?_
  refine lv_icmp_ne (tgt := 249) hx hb dX2_reads_220 (by decide) (fun c2 => ?_) (fun c2 => ?_)
  · rw [if_neg c2] at hf
    refine lv_aload_n hx hb dX2_reads_249 rfl (lv_at hl 0 rfl) ?_
    replace hf := b1_i hf
    obtain ⟨u, e2, hf⟩ := hf
    obtain ⟨fs, ek⟩ := ck_i e2
    replace hf := b1_i hf
    obtain ⟨σ3, e3, hf⟩ := hf
    refine mm_cv (va_runV (As := []) (rest := []) ⟨hx, hb, hml, hown, hts⟩ (m_X2_fails l G h0 σ σ3 e3) (cwV 0 hts (lw_V q1287 q1289 qs54 q67 q1290) rfl rfl rfl (by decide +kernel) ⟨Nat.le_of_ble_eq_true rfl, Nat.le_of_ble_eq_true rfl⟩) (mm_preV F.2.2.2.2.2 hH (ci := 2) rfl ek) rfl rfl hl.1 rfl (lv_room (Nat.le_of_ble_eq_true rfl)) dX2_reads_250 ⟨Nat.le_of_ble_eq_true rfl, Nat.le_of_ble_eq_true rfl⟩) hH (fun H locs hH => ?_)
    refine lv_aload_n hx hb dX2_reads_253 rfl (lv_at hl 0 rfl) ?_
    refine lv_dup hx hb dX2_reads_254 rfl ?_
    replace hf := b1_i hf
    obtain ⟨v4, e4, hf⟩ := hf
    refine mm_getI F hH mc_2 (k := 14) (by decide) (hts _ q1061) (fun _ h => h) e4 dX2_reads_255 ?_
    refine lv_iconst (v := 1) hx hb dX2_reads_258 (by decide) ?_
    refine lv_iadd hx hb dX2_reads_259 ?_
    replace hf := b1_i hf
    obtain ⟨σ5, e5, hf⟩ := hf
    refine mm_put F hH mc_2 (k := 14) (v := vI (v4 + (1 : Int32))) (by decide) (hts _ q1061) (fun _ h => h) rfl rfl rfl e5 dX2_reads_260 (fun H locs hH => ?_)
    have h1 := Option.some.inj hf
    subst h1
    exact mm_retv F hH hr hlocks dX2_reads_263
  · rw [if_pos c2] at hf
    refine lv_aload_n hx hb dX2_reads_223 rfl (lv_at hl 0 rfl) ?_
    replace hf := b1_i hf
    obtain ⟨u, e6, hf⟩ := hf
    obtain ⟨fs, ek⟩ := ck_i e6
    replace hf := b1_i hf
    obtain ⟨v6, e7, hf⟩ := hf
    refine mm_ci (va_runV (As := []) (rest := []) ⟨hx, hb, hml, hown, hts⟩ (m_X2_next_2 l G h0 σ v6 e7) (cwV 0 hts (lw_V q1279 q1281 qs52 q67 q1282) rfl rfl rfl (by decide +kernel) ⟨Nat.le_of_ble_eq_true rfl, Nat.le_of_ble_eq_true rfl⟩) (mm_preV F.2.2.2.2.2 hH (ci := 2) rfl ek) rfl rfl hl.1 rfl (lv_room (Nat.le_of_ble_eq_true rfl)) dX2_reads_224 ⟨Nat.le_of_ble_eq_true rfl, Nat.le_of_ble_eq_true rfl⟩) hH (fun H locs hH => ?_)
    refine lv_bipush (v := 59) hx hb dX2_reads_227 (by decide) ?_
    refine lv_icmp_ne (tgt := 249) hx hb dX2_reads_229 (by decide) (fun c7 => ?_) (fun c7 => ?_)
    · rw [if_neg c7] at hf
      refine lv_aload_n hx hb dX2_reads_249 rfl (lv_at hl 0 rfl) ?_
      replace hf := b1_i hf
      obtain ⟨u, e8, hf⟩ := hf
      obtain ⟨fs, ek⟩ := ck_i e8
      replace hf := b1_i hf
      obtain ⟨σ8, e9, hf⟩ := hf
      refine mm_cv (va_runV (As := []) (rest := []) ⟨hx, hb, hml, hown, hts⟩ (m_X2_fails l G h0 σ σ8 e9) (cwV 0 hts (lw_V q1287 q1289 qs54 q67 q1290) rfl rfl rfl (by decide +kernel) ⟨Nat.le_of_ble_eq_true rfl, Nat.le_of_ble_eq_true rfl⟩) (mm_preV F.2.2.2.2.2 hH (ci := 2) rfl ek) rfl rfl hl.1 rfl (lv_room (Nat.le_of_ble_eq_true rfl)) dX2_reads_250 ⟨Nat.le_of_ble_eq_true rfl, Nat.le_of_ble_eq_true rfl⟩) hH (fun H locs hH => ?_)
      refine lv_aload_n hx hb dX2_reads_253 rfl (lv_at hl 0 rfl) ?_
      refine lv_dup hx hb dX2_reads_254 rfl ?_
      replace hf := b1_i hf
      obtain ⟨v9, e10, hf⟩ := hf
      refine mm_getI F hH mc_2 (k := 14) (by decide) (hts _ q1061) (fun _ h => h) e10 dX2_reads_255 ?_
      refine lv_iconst (v := 1) hx hb dX2_reads_258 (by decide) ?_
      refine lv_iadd hx hb dX2_reads_259 ?_
      replace hf := b1_i hf
      obtain ⟨σ10, e11, hf⟩ := hf
      refine mm_put F hH mc_2 (k := 14) (v := vI (v9 + (1 : Int32))) (by decide) (hts _ q1061) (fun _ h => h) rfl rfl rfl e11 dX2_reads_260 (fun H locs hH => ?_)
      have h1 := Option.some.inj hf
      subst h1
      exact mm_retv F hH hr hlocks dX2_reads_263
    · rw [if_pos c7] at hf
      refine lv_aload_n hx hb dX2_reads_232 rfl (lv_at hl 0 rfl) ?_
      refine lv_dup hx hb dX2_reads_233 rfl ?_
      replace hf := b1_i hf
      obtain ⟨v11, e12, hf⟩ := hf
      refine mm_getI F hH mc_2 (k := 15) (by decide) (hts _ q1062) (fun _ h => h) e12 dX2_reads_234 ?_
      refine lv_iconst (v := 1) hx hb dX2_reads_237 (by decide) ?_
      refine lv_iadd hx hb dX2_reads_238 ?_
      replace hf := b1_i hf
      obtain ⟨σ12, e13, hf⟩ := hf
      refine mm_put F hH mc_2 (k := 15) (v := vI (v11 + (1 : Int32))) (by decide) (hts _ q1062) (fun _ h => h) rfl rfl rfl e13 dX2_reads_239 (fun H locs hH => ?_)
      refine lv_aload_n hx hb dX2_reads_242 rfl (lv_at hl 0 rfl) ?_
      replace hf := b1_i hf
      obtain ⟨u, e14, hf⟩ := hf
      obtain ⟨fs, ek⟩ := ck_i e14
      replace hf := b1_i hf
      obtain ⟨σ13, e15, hf⟩ := hf
      refine mm_cv (va_runV (As := []) (rest := []) ⟨hx, hb, hml, hown, hts⟩ (m_X2_blanks l G h0 σ12 σ13 e15) (cwV 0 hts (lw_V q1275 q1277 qs51 q67 q1278) rfl rfl rfl (by decide +kernel) ⟨Nat.le_of_ble_eq_true rfl, Nat.le_of_ble_eq_true rfl⟩) (mm_preV F.2.2.2.2.2 hH (ci := 2) rfl ek) rfl rfl hl.1 rfl (lv_room (Nat.le_of_ble_eq_true rfl)) dX2_reads_243 ⟨Nat.le_of_ble_eq_true rfl, Nat.le_of_ble_eq_true rfl⟩) hH (fun H locs hH => ?_)
      refine lv_goto (tgt := 253) hx hb dX2_reads_246 (by decide) ?_
      refine lv_aload_n hx hb dX2_reads_253 rfl (lv_at hl 0 rfl) ?_
      refine lv_dup hx hb dX2_reads_254 rfl ?_
      replace hf := b1_i hf
      obtain ⟨v14, e16, hf⟩ := hf
      refine mm_getI F hH mc_2 (k := 14) (by decide) (hts _ q1061) (fun _ h => h) e16 dX2_reads_255 ?_
      refine lv_iconst (v := 1) hx hb dX2_reads_258 (by decide) ?_
      refine lv_iadd hx hb dX2_reads_259 ?_
      replace hf := b1_i hf
      obtain ⟨σ15, e17, hf⟩ := hf
      refine mm_put F hH mc_2 (k := 14) (v := vI (v14 + (1 : Int32))) (by decide) (hts _ q1061) (fun _ h => h) rfl rfl rfl e17 dX2_reads_260 (fun H locs hH => ?_)
      have h1 := Option.some.inj hf
      subst h1
      exact mm_retv F hH hr hlocks dX2_reads_263
set_option maxHeartbeats 4000000 in
theorem w_X2_reads_125 {p : Program} {l : Launch} {e : Env} {s : State} {m : MethodId} {av : Array Value} {below : List Frame} {meth : Method} {c : Code} {G : mm_G} {σf : mm_M}  {h0 : Nat} (F : mm_F p s m av c RX2 cX2_reads 3 G) (hr : meth.sig.returnType = (Option.none : Option Jvm.ClassFile.FieldType)) (hlocks : meth.locks = false) (hname : meth.name = yX2_reads.name)   (x2 : Int32)  (σ : mm_M) (hf : g_X2_reads_125 h0 x2 σ = some σf) {H : Heap} {locs : List Loc} {ls : Array Slot} (hH : mm_H G s σ H locs) (hl : lv_has ls 3 [(0, .ref h0), (2, .int x2)]) : W p l e rm_X2_reads s m av below meth c H locs 0 0 (MQ below (mm_Qv G σf) av s 0 0 (mm_A G)) (F0 m 125 ls []) := by
  have hx := F.1
  have hb := F.2.1
  have hml := F.2.2.1
  have hown := F.2.2.2.1
  have hts := F.2.2.2.2.1
  unfold g_X2_reads_125 at hf
  refine lv_aload_n hx hb dX2_reads_125 rfl (lv_at hl 0 rfl) ?_
  replace hf := b1_i hf
  obtain ⟨q1, e1, hf⟩ := hf
  refine mm_getA F hH mc_2 (k := 13) (by decide) (hts _ q1060) (fun _ h => h) e1 dX2_reads_126 ?_
  refine lv_iload_n hx hb dX2_reads_129 rfl (lv_at hl 1 rfl) ?_
  refine lv_iconst (v := 1) hx hb dX2_reads_130 (by decide) ?_
  refine lv_iadd hx hb dX2_reads_131 ?_
  refine lv_aload_n hx hb dX2_reads_132 rfl (lv_at hl 0 rfl) ?_
  replace hf := b1_i hf
  obtain ⟨u, e2, hf⟩ := hf
  obtain ⟨fs, ek⟩ := ck_i e2
  replace hf := b2_i hf
  obtain ⟨v2, σ3, e3, hf⟩ := hf
  refine mm_ci (va_runV (As := []) (rest := [.int (x2 + (1 : Int32)), .ref q1]) ⟨hx, hb, hml, hown, hts⟩ (m_X2_digit l G h0 σ σ3 v2 e3) (cwV 0 hts (lw_V q1291 q1293 qs55 q67 q1294) rfl rfl rfl (by decide +kernel) ⟨Nat.le_of_ble_eq_true rfl, Nat.le_of_ble_eq_true rfl⟩) (mm_preV F.2.2.2.2.2 hH (ci := 2) rfl ek) rfl rfl hl.1 rfl (lv_room (Nat.le_of_ble_eq_true rfl)) dX2_reads_133 ⟨Nat.le_of_ble_eq_true rfl, Nat.le_of_ble_eq_true rfl⟩) hH (fun H locs hH => ?_)
  replace hf := b1_i hf
  obtain ⟨σ4, e4, hf⟩ := hf
  refine mm_iast F hH e4 dX2_reads_136 (fun H locs hH => ?_)
  refine lv_aload_n hx hb dX2_reads_137 rfl (lv_at hl 0 rfl) ?_
  replace hf := b1_i hf
  obtain ⟨q5, e5, hf⟩ := hf
  refine mm_getA F hH mc_2 (k := 13) (by decide) (hts _ q1060) (fun _ h => h) e5 dX2_reads_138 ?_
  refine lv_iload_n hx hb dX2_reads_141 rfl (lv_at hl 1 rfl) ?_
  refine lv_iconst (v := 2) hx hb dX2_reads_142 (by decide) ?_
  refine lv_iadd hx hb dX2_reads_143 ?_
  refine lv_aload_n hx hb dX2_reads_144 rfl (lv_at hl 0 rfl) ?_
  replace hf := b1_i hf
  obtain ⟨u, e6, hf⟩ := hf
  obtain ⟨fs, ek⟩ := ck_i e6
  replace hf := b2_i hf
  obtain ⟨v6, σ7, e7, hf⟩ := hf
  refine mm_ci (va_runV (As := []) (rest := [.int (x2 + (2 : Int32)), .ref q5]) ⟨hx, hb, hml, hown, hts⟩ (m_X2_place l G h0 σ4 σ7 v6 e7) (cwV 0 hts (lw_V q1299 q1301 qs57 q67 q1302) rfl rfl rfl (by decide +kernel) ⟨Nat.le_of_ble_eq_true rfl, Nat.le_of_ble_eq_true rfl⟩) (mm_preV F.2.2.2.2.2 hH (ci := 2) rfl ek) rfl rfl hl.1 rfl (lv_room (Nat.le_of_ble_eq_true rfl)) dX2_reads_145 ⟨Nat.le_of_ble_eq_true rfl, Nat.le_of_ble_eq_true rfl⟩) hH (fun H locs hH => ?_)
  replace hf := b1_i hf
  obtain ⟨σ8, e8, hf⟩ := hf
  refine mm_iast F hH e8 dX2_reads_148 (fun H locs hH => ?_)
  refine lv_goto (tgt := 215) hx hb dX2_reads_149 (by decide) ?_
  exact w_X2_reads_215 F hr hlocks hname  σ8 hf hH (lv_sub hl [0] rfl)
set_option maxHeartbeats 4000000 in
theorem w_X2_reads_59 {p : Program} {l : Launch} {e : Env} {s : State} {m : MethodId} {av : Array Value} {below : List Frame} {meth : Method} {c : Code} {G : mm_G} {σf : mm_M}  {h0 : Nat} (F : mm_F p s m av c RX2 cX2_reads 3 G) (hr : meth.sig.returnType = (Option.none : Option Jvm.ClassFile.FieldType)) (hlocks : meth.locks = false) (hname : meth.name = yX2_reads.name)   (x1 : Int32) (x2 : Int32)  (σ : mm_M) (hf : g_X2_reads_59 h0 x1 x2 σ = some σf) {H : Heap} {locs : List Loc} {ls : Array Slot} (hH : mm_H G s σ H locs) (hl : lv_has ls 3 [(0, .ref h0), (1, .int x1), (2, .int x2)]) : W p l e rm_X2_reads s m av below meth c H locs 0 0 (MQ below (mm_Qv G σf) av s 0 0 (mm_A G)) (F0 m 59 ls []) := by
  have hx := F.1
  have hb := F.2.1
  have hml := F.2.2.1
  have hown := F.2.2.2.1
  have hts := F.2.2.2.2.1
  unfold g_X2_reads_59 at hf
  refine lv_aload_n hx hb dX2_reads_59 rfl (lv_at hl 0 rfl) ?_
  replace hf := b1_i hf
  obtain ⟨q1, e1, hf⟩ := hf
  refine mm_getA F hH mc_2 (k := 13) (by decide) (hts _ q1060) (fun _ h => h) e1 dX2_reads_60 ?_
  refine lv_iload_n hx hb dX2_reads_63 rfl (lv_at hl 2 rfl) ?_
  refine lv_iload_n hx hb dX2_reads_64 rfl (lv_at hl 1 rfl) ?_
  replace hf := b1_i hf
  obtain ⟨σ2, e2, hf⟩ := hf
  refine mm_iast F hH e2 dX2_reads_65 (fun H locs hH => ?_)
  refine lv_aload_n hx hb dX2_reads_66 rfl (lv_at hl 0 rfl) ?_
  refine lv_dup hx hb dX2_reads_67 rfl ?_
  replace hf := b1_i hf
  obtain ⟨v3, e3, hf⟩ := hf
  refine mm_getI F hH mc_2 (k := 15) (by decide) (hts _ q1062) (fun _ h => h) e3 dX2_reads_68 ?_
  refine lv_iconst (v := 1) hx hb dX2_reads_71 (by decide) ?_
  refine lv_iadd hx hb dX2_reads_72 ?_
  replace hf := b1_i hf
  obtain ⟨σ4, e4, hf⟩ := hf
  refine mm_put F hH mc_2 (k := 15) (v := vI (v3 + (1 : Int32))) (by decide) (hts _ q1062) (fun _ h => h) rfl rfl rfl e4 dX2_reads_73 (fun H locs hH => ?_)
  refine lv_aload_n hx hb dX2_reads_76 rfl (lv_at hl 0 rfl) ?_
  replace hf := b1_i hf
  obtain ⟨u, e5, hf⟩ := hf
  obtain ⟨fs, ek⟩ := ck_i e5
  replace hf := b1_i hf
  obtain ⟨σ5, e6, hf⟩ := hf
  refine mm_cv (va_runV (As := []) (rest := []) ⟨hx, hb, hml, hown, hts⟩ (m_X2_blanks l G h0 σ4 σ5 e6) (cwV 0 hts (lw_V q1275 q1277 qs51 q67 q1278) rfl rfl rfl (by decide +kernel) ⟨Nat.le_of_ble_eq_true rfl, Nat.le_of_ble_eq_true rfl⟩) (mm_preV F.2.2.2.2.2 hH (ci := 2) rfl ek) rfl rfl hl.1 rfl (lv_room (Nat.le_of_ble_eq_true rfl)) dX2_reads_77 ⟨Nat.le_of_ble_eq_true rfl, Nat.le_of_ble_eq_true rfl⟩) hH (fun H locs hH => ?_)
  refine lv_iload_n hx hb dX2_reads_80 rfl (lv_at hl 1 rfl) ?_
  refine lv_bipush (v := 110) hx hb dX2_reads_81 (by decide) ?_
  refine lv_icmp_ne (tgt := 113) hx hb dX2_reads_83 (by decide) (fun c6 => ?_) (fun c6 => ?_)
  · rw [if_neg c6] at hf
    refine lv_iload_n hx hb dX2_reads_113 rfl (lv_at hl 1 rfl) ?_
    refine lv_bipush (v := 114) hx hb dX2_reads_114 (by decide) ?_
    refine lv_icmp_eq (tgt := 125) hx hb dX2_reads_116 (by decide) (fun c7 => ?_) (fun c7 => ?_)
    · rw [if_pos c7] at hf
      exact w_X2_reads_125 F hr hlocks hname  x2 σ5 hf hH (lv_sub hl [0, 2] rfl)
    · rw [if_neg c7] at hf
      refine lv_iload_n hx hb dX2_reads_119 rfl (lv_at hl 1 rfl) ?_
      refine lv_bipush (v := 119) hx hb dX2_reads_120 (by decide) ?_
      refine lv_icmp_ne (tgt := 152) hx hb dX2_reads_122 (by decide) (fun c8 => ?_) (fun c8 => ?_)
      · rw [if_neg c8] at hf
        refine lv_iload_n hx hb dX2_reads_152 rfl (lv_at hl 1 rfl) ?_
        refine lv_bipush (v := 102) hx hb dX2_reads_153 (by decide) ?_
        refine lv_icmp_ne (tgt := 197) hx hb dX2_reads_155 (by decide) (fun c9 => ?_) (fun c9 => ?_)
        · rw [if_neg c9] at hf
          refine lv_iload_n hx hb dX2_reads_197 rfl (lv_at hl 1 rfl) ?_
          refine lv_bipush (v := 99) hx hb dX2_reads_198 (by decide) ?_
          refine lv_icmp_eq (tgt := 215) hx hb dX2_reads_200 (by decide) (fun c10 => ?_) (fun c10 => ?_)
          · rw [if_pos c10] at hf
            exact w_X2_reads_215 F hr hlocks hname  σ5 hf hH (lv_sub hl [0] rfl)
          · rw [if_neg c10] at hf
            refine lv_aload_n hx hb dX2_reads_203 rfl (lv_at hl 0 rfl) ?_
            replace hf := b1_i hf
            obtain ⟨q11, e7, hf⟩ := hf
            refine mm_getA F hH mc_2 (k := 13) (by decide) (hts _ q1060) (fun _ h => h) e7 dX2_reads_204 ?_
            refine lv_iload_n hx hb dX2_reads_207 rfl (lv_at hl 2 rfl) ?_
            refine lv_iconst (v := 1) hx hb dX2_reads_208 (by decide) ?_
            refine lv_iadd hx hb dX2_reads_209 ?_
            refine lv_aload_n hx hb dX2_reads_210 rfl (lv_at hl 0 rfl) ?_
            replace hf := b1_i hf
            obtain ⟨u, e8, hf⟩ := hf
            obtain ⟨fs, ek⟩ := ck_i e8
            replace hf := b2_i hf
            obtain ⟨v12, σ13, e9, hf⟩ := hf
            refine mm_ci (va_runV (As := []) (rest := [.int (x2 + (1 : Int32)), .ref q11]) ⟨hx, hb, hml, hown, hts⟩ (m_X2_number l G h0 σ5 σ13 v12 e9) (cwV 0 hts (lw_V q1303 q1305 qs58 q67 q1306) rfl rfl rfl (by decide +kernel) ⟨Nat.le_of_ble_eq_true rfl, Nat.le_of_ble_eq_true rfl⟩) (mm_preV F.2.2.2.2.2 hH (ci := 2) rfl ek) rfl rfl hl.1 rfl (lv_room (Nat.le_of_ble_eq_true rfl)) dX2_reads_211 ⟨Nat.le_of_ble_eq_true rfl, Nat.le_of_ble_eq_true rfl⟩) hH (fun H locs hH => ?_)
            replace hf := b1_i hf
            obtain ⟨σ14, e10, hf⟩ := hf
            refine mm_iast F hH e10 dX2_reads_214 (fun H locs hH => ?_)
            exact w_X2_reads_215 F hr hlocks hname  σ14 hf hH (lv_sub hl [0] rfl)
        · rw [if_pos c9] at hf
          refine lv_aload_n hx hb dX2_reads_158 rfl (lv_at hl 0 rfl) ?_
          replace hf := b1_i hf
          obtain ⟨q15, e11, hf⟩ := hf
          refine mm_getA F hH mc_2 (k := 13) (by decide) (hts _ q1060) (fun _ h => h) e11 dX2_reads_159 ?_
          refine lv_iload_n hx hb dX2_reads_162 rfl (lv_at hl 2 rfl) ?_
          refine lv_iconst (v := 1) hx hb dX2_reads_163 (by decide) ?_
          refine lv_iadd hx hb dX2_reads_164 ?_
          refine lv_aload_n hx hb dX2_reads_165 rfl (lv_at hl 0 rfl) ?_
          replace hf := b1_i hf
          obtain ⟨u, e12, hf⟩ := hf
          obtain ⟨fs, ek⟩ := ck_i e12
          replace hf := b2_i hf
          obtain ⟨v16, σ17, e13, hf⟩ := hf
          refine mm_ci (va_runV (As := []) (rest := [.int (x2 + (1 : Int32)), .ref q15]) ⟨hx, hb, hml, hown, hts⟩ (m_X2_number l G h0 σ5 σ17 v16 e13) (cwV 0 hts (lw_V q1303 q1305 qs58 q67 q1306) rfl rfl rfl (by decide +kernel) ⟨Nat.le_of_ble_eq_true rfl, Nat.le_of_ble_eq_true rfl⟩) (mm_preV F.2.2.2.2.2 hH (ci := 2) rfl ek) rfl rfl hl.1 rfl (lv_room (Nat.le_of_ble_eq_true rfl)) dX2_reads_166 ⟨Nat.le_of_ble_eq_true rfl, Nat.le_of_ble_eq_true rfl⟩) hH (fun H locs hH => ?_)
          replace hf := b1_i hf
          obtain ⟨σ18, e14, hf⟩ := hf
          refine mm_iast F hH e14 dX2_reads_169 (fun H locs hH => ?_)
          refine lv_aload_n hx hb dX2_reads_170 rfl (lv_at hl 0 rfl) ?_
          replace hf := b1_i hf
          obtain ⟨q19, e15, hf⟩ := hf
          refine mm_getA F hH mc_2 (k := 13) (by decide) (hts _ q1060) (fun _ h => h) e15 dX2_reads_171 ?_
          refine lv_iload_n hx hb dX2_reads_174 rfl (lv_at hl 2 rfl) ?_
          refine lv_iconst (v := 2) hx hb dX2_reads_175 (by decide) ?_
          refine lv_iadd hx hb dX2_reads_176 ?_
          refine lv_aload_n hx hb dX2_reads_177 rfl (lv_at hl 0 rfl) ?_
          replace hf := b1_i hf
          obtain ⟨u, e16, hf⟩ := hf
          obtain ⟨fs, ek⟩ := ck_i e16
          replace hf := b2_i hf
          obtain ⟨v20, σ21, e17, hf⟩ := hf
          refine mm_ci (va_runV (As := []) (rest := [.int (x2 + (2 : Int32)), .ref q19]) ⟨hx, hb, hml, hown, hts⟩ (m_X2_digit l G h0 σ18 σ21 v20 e17) (cwV 0 hts (lw_V q1291 q1293 qs55 q67 q1294) rfl rfl rfl (by decide +kernel) ⟨Nat.le_of_ble_eq_true rfl, Nat.le_of_ble_eq_true rfl⟩) (mm_preV F.2.2.2.2.2 hH (ci := 2) rfl ek) rfl rfl hl.1 rfl (lv_room (Nat.le_of_ble_eq_true rfl)) dX2_reads_178 ⟨Nat.le_of_ble_eq_true rfl, Nat.le_of_ble_eq_true rfl⟩) hH (fun H locs hH => ?_)
          replace hf := b1_i hf
          obtain ⟨σ22, e18, hf⟩ := hf
          refine mm_iast F hH e18 dX2_reads_181 (fun H locs hH => ?_)
          refine lv_aload_n hx hb dX2_reads_182 rfl (lv_at hl 0 rfl) ?_
          replace hf := b1_i hf
          obtain ⟨q23, e19, hf⟩ := hf
          refine mm_getA F hH mc_2 (k := 13) (by decide) (hts _ q1060) (fun _ h => h) e19 dX2_reads_183 ?_
          refine lv_iload_n hx hb dX2_reads_186 rfl (lv_at hl 2 rfl) ?_
          refine lv_iconst (v := 3) hx hb dX2_reads_187 (by decide) ?_
          refine lv_iadd hx hb dX2_reads_188 ?_
          refine lv_aload_n hx hb dX2_reads_189 rfl (lv_at hl 0 rfl) ?_
          replace hf := b1_i hf
          obtain ⟨u, e20, hf⟩ := hf
          obtain ⟨fs, ek⟩ := ck_i e20
          replace hf := b2_i hf
          obtain ⟨v24, σ25, e21, hf⟩ := hf
          refine mm_ci (va_runV (As := []) (rest := [.int (x2 + (3 : Int32)), .ref q23]) ⟨hx, hb, hml, hown, hts⟩ (m_X2_place l G h0 σ22 σ25 v24 e21) (cwV 0 hts (lw_V q1299 q1301 qs57 q67 q1302) rfl rfl rfl (by decide +kernel) ⟨Nat.le_of_ble_eq_true rfl, Nat.le_of_ble_eq_true rfl⟩) (mm_preV F.2.2.2.2.2 hH (ci := 2) rfl ek) rfl rfl hl.1 rfl (lv_room (Nat.le_of_ble_eq_true rfl)) dX2_reads_190 ⟨Nat.le_of_ble_eq_true rfl, Nat.le_of_ble_eq_true rfl⟩) hH (fun H locs hH => ?_)
          replace hf := b1_i hf
          obtain ⟨σ26, e22, hf⟩ := hf
          refine mm_iast F hH e22 dX2_reads_193 (fun H locs hH => ?_)
          refine lv_goto (tgt := 215) hx hb dX2_reads_194 (by decide) ?_
          exact w_X2_reads_215 F hr hlocks hname  σ26 hf hH (lv_sub hl [0] rfl)
      · rw [if_pos c8] at hf
        exact w_X2_reads_125 F hr hlocks hname  x2 σ5 hf hH (lv_sub hl [0, 2] rfl)
  · rw [if_pos c6] at hf
    refine lv_aload_n hx hb dX2_reads_86 rfl (lv_at hl 0 rfl) ?_
    replace hf := b1_i hf
    obtain ⟨q27, e23, hf⟩ := hf
    refine mm_getA F hH mc_2 (k := 13) (by decide) (hts _ q1060) (fun _ h => h) e23 dX2_reads_87 ?_
    refine lv_iload_n hx hb dX2_reads_90 rfl (lv_at hl 2 rfl) ?_
    refine lv_iconst (v := 1) hx hb dX2_reads_91 (by decide) ?_
    refine lv_iadd hx hb dX2_reads_92 ?_
    refine lv_aload_n hx hb dX2_reads_93 rfl (lv_at hl 0 rfl) ?_
    replace hf := b1_i hf
    obtain ⟨u, e24, hf⟩ := hf
    obtain ⟨fs, ek⟩ := ck_i e24
    replace hf := b2_i hf
    obtain ⟨v28, σ29, e25, hf⟩ := hf
    refine mm_ci (va_runV (As := []) (rest := [.int (x2 + (1 : Int32)), .ref q27]) ⟨hx, hb, hml, hown, hts⟩ (m_X2_digit l G h0 σ5 σ29 v28 e25) (cwV 0 hts (lw_V q1291 q1293 qs55 q67 q1294) rfl rfl rfl (by decide +kernel) ⟨Nat.le_of_ble_eq_true rfl, Nat.le_of_ble_eq_true rfl⟩) (mm_preV F.2.2.2.2.2 hH (ci := 2) rfl ek) rfl rfl hl.1 rfl (lv_room (Nat.le_of_ble_eq_true rfl)) dX2_reads_94 ⟨Nat.le_of_ble_eq_true rfl, Nat.le_of_ble_eq_true rfl⟩) hH (fun H locs hH => ?_)
    replace hf := b1_i hf
    obtain ⟨σ30, e26, hf⟩ := hf
    refine mm_iast F hH e26 dX2_reads_97 (fun H locs hH => ?_)
    refine lv_aload_n hx hb dX2_reads_98 rfl (lv_at hl 0 rfl) ?_
    replace hf := b1_i hf
    obtain ⟨q31, e27, hf⟩ := hf
    refine mm_getA F hH mc_2 (k := 13) (by decide) (hts _ q1060) (fun _ h => h) e27 dX2_reads_99 ?_
    refine lv_iload_n hx hb dX2_reads_102 rfl (lv_at hl 2 rfl) ?_
    refine lv_iconst (v := 2) hx hb dX2_reads_103 (by decide) ?_
    refine lv_iadd hx hb dX2_reads_104 ?_
    refine lv_aload_n hx hb dX2_reads_105 rfl (lv_at hl 0 rfl) ?_
    replace hf := b1_i hf
    obtain ⟨u, e28, hf⟩ := hf
    obtain ⟨fs, ek⟩ := ck_i e28
    replace hf := b2_i hf
    obtain ⟨v32, σ33, e29, hf⟩ := hf
    refine mm_ci (va_runV (As := []) (rest := [.int (x2 + (2 : Int32)), .ref q31]) ⟨hx, hb, hml, hown, hts⟩ (m_X2_digit l G h0 σ30 σ33 v32 e29) (cwV 0 hts (lw_V q1291 q1293 qs55 q67 q1294) rfl rfl rfl (by decide +kernel) ⟨Nat.le_of_ble_eq_true rfl, Nat.le_of_ble_eq_true rfl⟩) (mm_preV F.2.2.2.2.2 hH (ci := 2) rfl ek) rfl rfl hl.1 rfl (lv_room (Nat.le_of_ble_eq_true rfl)) dX2_reads_106 ⟨Nat.le_of_ble_eq_true rfl, Nat.le_of_ble_eq_true rfl⟩) hH (fun H locs hH => ?_)
    replace hf := b1_i hf
    obtain ⟨σ34, e30, hf⟩ := hf
    refine mm_iast F hH e30 dX2_reads_109 (fun H locs hH => ?_)
    refine lv_goto (tgt := 215) hx hb dX2_reads_110 (by decide) ?_
    exact w_X2_reads_215 F hr hlocks hname  σ34 hf hH (lv_sub hl [0] rfl)
set_option maxHeartbeats 4000000 in
theorem m_X2_reads (l : Launch) (G : mm_G) (h0 : Nat) (σ : mm_M) (σf : mm_M) (hf : f_X2_reads h0 σ = some σf) : Met l yX2_reads (ws_ yX2_reads cX2_reads 3 ((Option.none : Option Jvm.ClassFile.FieldType))) rm_X2_reads (mm_Pc G [.ref h0] σ) (mm_Qv G σf) 0 0 (mm_A G) := by
  refine mm_met (by decide) rfl rfl (by  exact Nat.le_of_ble_eq_true rfl) (fun p e s m below meth c ls F hH hr hlocks hname hl => ?_)
  have hl : lv_has ls 3 [(0, .ref h0)] := by  exact hl
  have F : mm_F p s m _ c RX2 cX2_reads 3 G := F
  have hx := F.1
  have hb := F.2.1
  have hml := F.2.2.1
  have hown := F.2.2.2.1
  have hts := F.2.2.2.2.1
  unfold f_X2_reads at hf
  refine lv_aload_n hx hb dX2_reads_0 rfl (lv_at hl 0 rfl) ?_
  replace hf := b1_i hf
  obtain ⟨u, e1, hf⟩ := hf
  obtain ⟨fs, ek⟩ := ck_i e1
  replace hf := b1_i hf
  obtain ⟨v1, e2, hf⟩ := hf
  refine mm_ci (va_runV (As := []) (rest := []) ⟨hx, hb, hml, hown, hts⟩ (m_X2_next_2 l G h0 σ v1 e2) (cwV 0 hts (lw_V q1279 q1281 qs52 q67 q1282) rfl rfl rfl (by decide +kernel) ⟨Nat.le_of_ble_eq_true rfl, Nat.le_of_ble_eq_true rfl⟩) (mm_preV F.2.2.2.2.2 hH (ci := 2) rfl ek) rfl rfl hl.1 rfl (lv_room (Nat.le_of_ble_eq_true rfl)) dX2_reads_1 ⟨Nat.le_of_ble_eq_true rfl, Nat.le_of_ble_eq_true rfl⟩) hH (fun H locs hH => ?_)
  refine lv_istore_n (lv' := [(1, .int v1), (0, .ref h0)]) hx hb dX2_reads_4 rfl hl (by decide) rfl (fun ls hl => ?_)
  refine lv_iconst (v := 4) hx hb dX2_reads_5 (by decide) ?_
  refine lv_aload_n hx hb dX2_reads_6 rfl (lv_at hl 1 rfl) ?_
  replace hf := b1_i hf
  obtain ⟨v2, e3, hf⟩ := hf
  refine mm_getI F hH mc_2 (k := 14) (by decide) (hts _ q1061) (fun _ h => h) e3 dX2_reads_7 ?_
  refine lv_imul hx hb dX2_reads_10 ?_
  refine lv_istore_n (lv' := [(2, .int ((4 : Int32) * v2)), (1, .int v1), (0, .ref h0)]) hx hb dX2_reads_11 rfl hl (by decide) rfl (fun ls hl => ?_)
  refine lv_iload_n hx hb dX2_reads_12 rfl (lv_at hl 1 rfl) ?_
  refine lv_bipush (v := 110) hx hb dX2_reads_13 (by decide) ?_
  refine lv_icmp_eq (tgt := 59) hx hb dX2_reads_15 (by decide) (fun c3 => ?_) (fun c3 => ?_)
  · rw [if_pos c3] at hf
    exact w_X2_reads_59 F hr hlocks hname  v1 ((4 : Int32) * v2) σ hf hH (lv_sub hl [2, 1, 0] rfl)
  · rw [if_neg c3] at hf
    refine lv_iload_n hx hb dX2_reads_18 rfl (lv_at hl 1 rfl) ?_
    refine lv_bipush (v := 114) hx hb dX2_reads_19 (by decide) ?_
    refine lv_icmp_eq (tgt := 59) hx hb dX2_reads_21 (by decide) (fun c4 => ?_) (fun c4 => ?_)
    · rw [if_pos c4] at hf
      exact w_X2_reads_59 F hr hlocks hname  v1 ((4 : Int32) * v2) σ hf hH (lv_sub hl [2, 1, 0] rfl)
    · rw [if_neg c4] at hf
      refine lv_iload_n hx hb dX2_reads_24 rfl (lv_at hl 1 rfl) ?_
      refine lv_bipush (v := 119) hx hb dX2_reads_25 (by decide) ?_
      refine lv_icmp_eq (tgt := 59) hx hb dX2_reads_27 (by decide) (fun c5 => ?_) (fun c5 => ?_)
      · rw [if_pos c5] at hf
        exact w_X2_reads_59 F hr hlocks hname  v1 ((4 : Int32) * v2) σ hf hH (lv_sub hl [2, 1, 0] rfl)
      · rw [if_neg c5] at hf
        refine lv_iload_n hx hb dX2_reads_30 rfl (lv_at hl 1 rfl) ?_
        refine lv_bipush (v := 102) hx hb dX2_reads_31 (by decide) ?_
        refine lv_icmp_eq (tgt := 59) hx hb dX2_reads_33 (by decide) (fun c6 => ?_) (fun c6 => ?_)
        · rw [if_pos c6] at hf
          exact w_X2_reads_59 F hr hlocks hname  v1 ((4 : Int32) * v2) σ hf hH (lv_sub hl [2, 1, 0] rfl)
        · rw [if_neg c6] at hf
          refine lv_iload_n hx hb dX2_reads_36 rfl (lv_at hl 1 rfl) ?_
          refine lv_bipush (v := 112) hx hb dX2_reads_37 (by decide) ?_
          refine lv_icmp_eq (tgt := 59) hx hb dX2_reads_39 (by decide) (fun c7 => ?_) (fun c7 => ?_)
          · rw [if_pos c7] at hf
            exact w_X2_reads_59 F hr hlocks hname  v1 ((4 : Int32) * v2) σ hf hH (lv_sub hl [2, 1, 0] rfl)
          · rw [if_neg c7] at hf
            refine lv_iload_n hx hb dX2_reads_42 rfl (lv_at hl 1 rfl) ?_
            refine lv_bipush (v := 117) hx hb dX2_reads_43 (by decide) ?_
            refine lv_icmp_eq (tgt := 59) hx hb dX2_reads_45 (by decide) (fun c8 => ?_) (fun c8 => ?_)
            · rw [if_pos c8] at hf
              exact w_X2_reads_59 F hr hlocks hname  v1 ((4 : Int32) * v2) σ hf hH (lv_sub hl [2, 1, 0] rfl)
            · rw [if_neg c8] at hf
              refine lv_iload_n hx hb dX2_reads_48 rfl (lv_at hl 1 rfl) ?_
              refine lv_bipush (v := 99) hx hb dX2_reads_49 (by decide) ?_
              refine lv_icmp_eq (tgt := 59) hx hb dX2_reads_51 (by decide) (fun c9 => ?_) (fun c9 => ?_)
              · rw [if_pos c9] at hf
                exact w_X2_reads_59 F hr hlocks hname  v1 ((4 : Int32) * v2) σ hf hH (lv_sub hl [2, 1, 0] rfl)
              · rw [if_neg c9] at hf
                refine lv_aload_n hx hb dX2_reads_54 rfl (lv_at hl 2 rfl) ?_
                replace hf := b1_i hf
                obtain ⟨u, e4, hf⟩ := hf
                obtain ⟨fs, ek⟩ := ck_i e4
                replace hf := b1_i hf
                obtain ⟨σ10, e5, hf⟩ := hf
                refine mm_cv (va_runV (As := []) (rest := []) ⟨hx, hb, hml, hown, hts⟩ (m_X2_fails l G h0 σ σ10 e5) (cwV 0 hts (lw_V q1287 q1289 qs54 q67 q1290) rfl rfl rfl (by decide +kernel) ⟨Nat.le_of_ble_eq_true rfl, Nat.le_of_ble_eq_true rfl⟩) (mm_preV F.2.2.2.2.2 hH (ci := 2) rfl ek) rfl rfl hl.1 rfl (lv_room (Nat.le_of_ble_eq_true rfl)) dX2_reads_55 ⟨Nat.le_of_ble_eq_true rfl, Nat.le_of_ble_eq_true rfl⟩) hH (fun H locs hH => ?_)
                have h1 := Option.some.inj hf
                subst h1
                exact mm_retv F hH hr hlocks dX2_reads_58
/-! IslandHeapModel.fault()I -/
abbrev rm_X2_fault : Room := { frames := 5, cells := 0, slots := 0, locals := 106 }
set_option maxHeartbeats 4000000 in
theorem w_X2_fault_19 {p : Program} {l : Launch} {e : Env} {s : State} {m : MethodId} {av : Array Value} {below : List Frame} {meth : Method} {c : Code} {G : mm_G} {σf : mm_M} {rr : Int32} {n : Nat} {h0 : Nat} (F : mm_F p s m av c RX2 cX2_fault 1 G) (hr : meth.sig.returnType = (Option.some .int)) (hlocks : meth.locks = false) (hname : meth.name = yX2_fault.name) (IH19 : ∀  (σ : mm_M) (H : Heap) (locs : List Loc) (ls : Array Slot), mm_H G s σ H locs → lv_has ls 1 [(0, .ref h0)] → itn (s_X2_fault h0) n σ = some (rr, σf) → W p l e rm_X2_fault s m av below meth c H locs 0 0 (MQ below (mm_Qi G rr σf) av s 0 0 (mm_A G)) (F0 m 19 ls []))    (σ : mm_M) (hf : evn (s_X2_fault h0) n (g_X2_fault_19 h0 σ) = some (rr, σf)) {H : Heap} {locs : List Loc} {ls : Array Slot} (hH : mm_H G s σ H locs) (hl : lv_has ls 1 [(0, .ref h0)]) : W p l e rm_X2_fault s m av below meth c H locs 0 0 (MQ below (mm_Qi G rr σf) av s 0 0 (mm_A G)) (F0 m 19 ls []) := by
  have hx := F.1
  have hb := F.2.1
  have hml := F.2.2.1
  have hown := F.2.2.2.1
  have hts := F.2.2.2.2.1
  unfold g_X2_fault_19 at hf
  refine lv_aload_n hx hb dX2_fault_19 rfl (lv_at hl 0 rfl) ?_
  replace hf := evn_b1 hf
  obtain ⟨v1, e1, hf⟩ := hf
  refine mm_getI F hH mc_2 (k := 16) (by decide) (hts _ q1063) (fun _ h => h) e1 dX2_fault_20 ?_
  refine lv_iconst (v := (-1)) hx hb dX2_fault_23 (by decide) ?_
  refine lv_icmp_ne (tgt := 45) hx hb dX2_fault_24 (by decide) (fun c2 => ?_) (fun c2 => ?_)
  · rw [if_neg c2] at hf
    refine lv_aload_n hx hb dX2_fault_45 rfl (lv_at hl 0 rfl) ?_
    replace hf := evn_b1 hf
    obtain ⟨v3, e2, hf⟩ := hf
    refine mm_getI F hH mc_2 (k := 16) (by decide) (hts _ q1063) (fun _ h => h) e2 dX2_fault_46 ?_
    rw [evn_r] at hf
    obtain ⟨h1, h2⟩ := Prod.mk.inj (Option.some.inj hf)
    subst h1
    subst h2
    exact mm_reti F hH hr hlocks rfl rfl dX2_fault_49
  · rw [if_pos c2] at hf
    refine lv_aload_n hx hb dX2_fault_27 rfl (lv_at hl 0 rfl) ?_
    replace hf := evn_b1 hf
    obtain ⟨v4, e3, hf⟩ := hf
    refine mm_getI F hH mc_2 (k := 15) (by decide) (hts _ q1062) (fun _ h => h) e3 dX2_fault_28 ?_
    refine lv_aload_n hx hb dX2_fault_31 rfl (lv_at hl 0 rfl) ?_
    replace hf := evn_b1 hf
    obtain ⟨v5, e4, hf⟩ := hf
    refine mm_getI F hH mc_2 (k := 5) (by decide) (hts _ q1052) (fun _ h => h) e4 dX2_fault_32 ?_
    refine lv_icmp_ge (tgt := 45) hx hb dX2_fault_35 (by decide) (fun c6 => ?_) (fun c6 => ?_)
    · rw [if_pos c6] at hf
      refine lv_aload_n hx hb dX2_fault_45 rfl (lv_at hl 0 rfl) ?_
      replace hf := evn_b1 hf
      obtain ⟨v7, e5, hf⟩ := hf
      refine mm_getI F hH mc_2 (k := 16) (by decide) (hts _ q1063) (fun _ h => h) e5 dX2_fault_46 ?_
      rw [evn_r] at hf
      obtain ⟨h1, h2⟩ := Prod.mk.inj (Option.some.inj hf)
      subst h1
      subst h2
      exact mm_reti F hH hr hlocks rfl rfl dX2_fault_49
    · rw [if_neg c6] at hf
      refine lv_aload_n hx hb dX2_fault_38 rfl (lv_at hl 0 rfl) ?_
      replace hf := evn_b1 hf
      obtain ⟨u, e6, hf⟩ := hf
      obtain ⟨fs, ek⟩ := ck_i e6
      replace hf := evn_b1 hf
      obtain ⟨σ8, e7, hf⟩ := hf
      refine mm_cv (va_runV (As := []) (rest := []) ⟨hx, hb, hml, hown, hts⟩ (m_X2_reads l G h0 σ σ8 e7) (cwV 0 hts (lw_V q1283 q1285 qs53 q67 q1286) rfl rfl rfl (by decide +kernel) ⟨Nat.le_of_ble_eq_true rfl, Nat.le_of_ble_eq_true rfl⟩) (mm_preV F.2.2.2.2.2 hH (ci := 2) rfl ek) rfl rfl hl.1 rfl (lv_room (Nat.le_of_ble_eq_true rfl)) dX2_fault_39 ⟨Nat.le_of_ble_eq_true rfl, Nat.le_of_ble_eq_true rfl⟩) hH (fun H locs hH => ?_)
      refine lv_goto (tgt := 19) hx hb dX2_fault_42 (by decide) ?_
      rw [evn_l] at hf
      exact IH19  σ8 _ _ _ hH (lv_sub hl [0] rfl) hf
set_option maxHeartbeats 4000000 in
theorem w_X2_fault_0 {p : Program} {l : Launch} {e : Env} {s : State} {m : MethodId} {av : Array Value} {below : List Frame} {meth : Method} {c : Code} {G : mm_G} {σf : mm_M} {rr : Int32} {n : Nat} {h0 : Nat} (F : mm_F p s m av c RX2 cX2_fault 1 G) (hr : meth.sig.returnType = (Option.some .int)) (hlocks : meth.locks = false) (hname : meth.name = yX2_fault.name) (IH19 : ∀  (σ : mm_M) (H : Heap) (locs : List Loc) (ls : Array Slot), mm_H G s σ H locs → lv_has ls 1 [(0, .ref h0)] → itn (s_X2_fault h0) n σ = some (rr, σf) → W p l e rm_X2_fault s m av below meth c H locs 0 0 (MQ below (mm_Qi G rr σf) av s 0 0 (mm_A G)) (F0 m 19 ls []))    (σ : mm_M) (hf : evn (s_X2_fault h0) n (g_X2_fault_0 h0 σ) = some (rr, σf)) {H : Heap} {locs : List Loc} {ls : Array Slot} (hH : mm_H G s σ H locs) (hl : lv_has ls 1 [(0, .ref h0)]) : W p l e rm_X2_fault s m av below meth c H locs 0 0 (MQ below (mm_Qi G rr σf) av s 0 0 (mm_A G)) (F0 m 0 ls []) := by
  have hx := F.1
  have hb := F.2.1
  have hml := F.2.2.1
  have hown := F.2.2.2.1
  have hts := F.2.2.2.2.1
  unfold g_X2_fault_0 at hf
  refine lv_aload_n hx hb dX2_fault_0 rfl (lv_at hl 0 rfl) ?_
  refine lv_iconst (v := 0) hx hb dX2_fault_1 (by decide) ?_
  replace hf := evn_b1 hf
  obtain ⟨σ1, e1, hf⟩ := hf
  refine mm_put F hH mc_2 (k := 15) (v := vI (0 : Int32)) (by decide) (hts _ q1062) (fun _ h => h) rfl rfl rfl e1 dX2_fault_2 (fun H locs hH => ?_)
  refine lv_aload_n hx hb dX2_fault_5 rfl (lv_at hl 0 rfl) ?_
  refine lv_iconst (v := 0) hx hb dX2_fault_6 (by decide) ?_
  replace hf := evn_b1 hf
  obtain ⟨σ2, e2, hf⟩ := hf
  refine mm_put F hH mc_2 (k := 14) (v := vI (0 : Int32)) (by decide) (hts _ q1061) (fun _ h => h) rfl rfl rfl e2 dX2_fault_7 (fun H locs hH => ?_)
  refine lv_aload_n hx hb dX2_fault_10 rfl (lv_at hl 0 rfl) ?_
  refine lv_iconst (v := (-1)) hx hb dX2_fault_11 (by decide) ?_
  replace hf := evn_b1 hf
  obtain ⟨σ3, e3, hf⟩ := hf
  refine mm_put F hH mc_2 (k := 16) (v := vI (-1 : Int32)) (by decide) (hts _ q1063) (fun _ h => h) rfl rfl rfl e3 dX2_fault_12 (fun H locs hH => ?_)
  refine lv_aload_n hx hb dX2_fault_15 rfl (lv_at hl 0 rfl) ?_
  replace hf := evn_b1 hf
  obtain ⟨u, e4, hf⟩ := hf
  obtain ⟨fs, ek⟩ := ck_i e4
  replace hf := evn_b1 hf
  obtain ⟨σ4, e5, hf⟩ := hf
  refine mm_cv (va_runV (As := []) (rest := []) ⟨hx, hb, hml, hown, hts⟩ (m_X2_blanks l G h0 σ3 σ4 e5) (cwV 0 hts (lw_V q1275 q1277 qs51 q67 q1278) rfl rfl rfl (by decide +kernel) ⟨Nat.le_of_ble_eq_true rfl, Nat.le_of_ble_eq_true rfl⟩) (mm_preV F.2.2.2.2.2 hH (ci := 2) rfl ek) rfl rfl hl.1 rfl (lv_room (Nat.le_of_ble_eq_true rfl)) dX2_fault_16 ⟨Nat.le_of_ble_eq_true rfl, Nat.le_of_ble_eq_true rfl⟩) hH (fun H locs hH => ?_)
  rw [evn_l] at hf
  exact IH19  σ4 _ _ _ hH (lv_sub hl [0] rfl) hf
set_option maxHeartbeats 4000000 in
theorem l_X2_fault {p : Program} {l : Launch} {e : Env} {s : State} {m : MethodId} {av : Array Value} {below : List Frame} {meth : Method} {c : Code} {G : mm_G} {σf : mm_M} {rr : Int32} {h0 : Nat} (F : mm_F p s m av c RX2 cX2_fault 1 G) (hr : meth.sig.returnType = (Option.some .int)) (hlocks : meth.locks = false) (hname : meth.name = yX2_fault.name) : ∀ n : Nat, (∀  (σ : mm_M) (H : Heap) (locs : List Loc) (ls : Array Slot), mm_H G s σ H locs → lv_has ls 1 [(0, .ref h0)] → itn (s_X2_fault h0) n σ = some (rr, σf) → W p l e rm_X2_fault s m av below meth c H locs 0 0 (MQ below (mm_Qi G rr σf) av s 0 0 (mm_A G)) (F0 m 19 ls [])) := by
  intro n
  induction n with
  | zero =>
    exact fun σ H locs ls hH hl hf => by cases hf
  | succ n ih =>
    have IH19 := ih
    intro σ H locs ls hH hl hf
    rw [itn_s] at hf
    exact w_X2_fault_19 F hr hlocks hname IH19 σ hf hH hl
set_option maxHeartbeats 4000000 in
theorem m_X2_fault (l : Launch) (G : mm_G) (h0 : Nat) (σ : mm_M) (σf : mm_M) (rr : Int32) (hf : f_X2_fault h0 σ = some (rr, σf)) : Met l yX2_fault (ws_ yX2_fault cX2_fault 1 ((Option.some .int))) rm_X2_fault (mm_Pc G [.ref h0] σ) (mm_Qi G rr σf) 0 0 (mm_A G) := by
  refine mm_met (by decide) rfl rfl (by  exact Nat.le_of_ble_eq_true rfl) (fun p e s m below meth c ls F hH hr hlocks hname hl => ?_)
  have hl : lv_has ls 1 [(0, .ref h0)] := by  exact hl
  have F : mm_F p s m _ c RX2 cX2_fault 1 G := F
  unfold f_X2_fault at hf
  obtain ⟨n, hf⟩ := lgo_i hf
  have IH := l_X2_fault (l := l) (e := e) (below := below) (rr := rr) (σf := σf) (h0 := h0) F hr hlocks hname n
  exact w_X2_fault_0 F hr hlocks hname IH σ hf hH (lv_sub hl [0] rfl)
/-! IslandHeapModel.does(I)I -/
abbrev rm_X2_does : Room := { frames := 7, cells := 0, slots := 0, locals := 161 }
set_option maxHeartbeats 4000000 in
theorem m_X2_does (l : Launch) (G : mm_G) (h0 : Nat) (x1 : Int32) (σ : mm_M) (σf : mm_M) (rr : Int32) (hf : f_X2_does h0 x1 σ = some (rr, σf)) : Met l yX2_does (ws_ yX2_does cX2_does 4 ((Option.some .int))) rm_X2_does (mm_Pc G [.ref h0, .int x1] σ) (mm_Qi G rr σf) 0 0 (mm_A G) := by
  refine mm_met (by decide) rfl rfl (by  exact Nat.le_of_ble_eq_true rfl) (fun p e s m below meth c ls F hH hr hlocks hname hl => ?_)
  have hl : lv_has ls 4 [(0, .ref h0), (1, .int x1)] := by  exact hl
  have F : mm_F p s m _ c RX2 cX2_does 4 G := F
  have hx := F.1
  have hb := F.2.1
  have hml := F.2.2.1
  have hown := F.2.2.2.1
  have hts := F.2.2.2.2.1
  unfold f_X2_does at hf
  refine lv_aload_n hx hb dX2_does_0 rfl (lv_at hl 0 rfl) ?_
  replace hf := b1_i hf
  obtain ⟨q1, e1, hf⟩ := hf
  refine mm_getA F hH mc_2 (k := 13) (by decide) (hts _ q1060) (fun _ h => h) e1 dX2_does_1 ?_
  refine lv_iconst (v := 4) hx hb dX2_does_4 (by decide) ?_
  refine lv_iload_n hx hb dX2_does_5 rfl (lv_at hl 1 rfl) ?_
  refine lv_imul hx hb dX2_does_6 ?_
  refine lv_iconst (v := 1) hx hb dX2_does_7 (by decide) ?_
  refine lv_iadd hx hb dX2_does_8 ?_
  replace hf := b1_i hf
  obtain ⟨v2, e2, hf⟩ := hf
  refine mm_iald F hH e2 dX2_does_9 ?_
  refine lv_istore_n (lv' := [(2, .int v2), (0, .ref h0), (1, .int x1)]) hx hb dX2_does_10 rfl hl (by decide) rfl (fun ls hl => ?_)
  refine lv_aload_n hx hb dX2_does_11 rfl (lv_at hl 1 rfl) ?_
  replace hf := b1_i hf
  obtain ⟨q3, e3, hf⟩ := hf
  refine mm_getA F hH mc_2 (k := 13) (by decide) (hts _ q1060) (fun _ h => h) e3 dX2_does_12 ?_
  refine lv_iconst (v := 4) hx hb dX2_does_15 (by decide) ?_
  refine lv_iload_n hx hb dX2_does_16 rfl (lv_at hl 2 rfl) ?_
  refine lv_imul hx hb dX2_does_17 ?_
  refine lv_iconst (v := 2) hx hb dX2_does_18 (by decide) ?_
  refine lv_iadd hx hb dX2_does_19 ?_
  replace hf := b1_i hf
  obtain ⟨v4, e4, hf⟩ := hf
  refine mm_iald F hH e4 dX2_does_20 ?_
  refine lv_istore_n (lv' := [(3, .int v4), (2, .int v2), (0, .ref h0), (1, .int x1)]) hx hb dX2_does_21 rfl hl (by decide) rfl (fun ls hl => ?_)
  refine lv_aload_n hx hb dX2_does_22 rfl (lv_at hl 2 rfl) ?_
  replace hf := b1_i hf
  obtain ⟨q5, e5, hf⟩ := hf
  refine mm_getA F hH mc_2 (k := 13) (by decide) (hts _ q1060) (fun _ h => h) e5 dX2_does_23 ?_
  refine lv_iconst (v := 4) hx hb dX2_does_26 (by decide) ?_
  refine lv_iload_n hx hb dX2_does_27 rfl (lv_at hl 3 rfl) ?_
  refine lv_imul hx hb dX2_does_28 ?_
  replace hf := b1_i hf
  obtain ⟨v6, e6, hf⟩ := hf
  refine mm_iald F hH e6 dX2_does_29 ?_
  by_cases c7 : v6 = (102 : Int32)
  · rw [if_pos c7] at hf
    refine lv_tableIn (off := 107) (tgt := 137) hx hb dX2_does_30 (by rw [c7]; decide) (by rw [c7]; decide) (by rw [c7]; rfl) (by decide) ?_
    refine lv_aload_n hx hb dX2_does_137 rfl (lv_at hl 2 rfl) ?_
    refine lv_iload_n hx hb dX2_does_138 rfl (lv_at hl 1 rfl) ?_
    refine lv_iload_n hx hb dX2_does_139 rfl (lv_at hl 0 rfl) ?_
    refine lv_aload_n hx hb dX2_does_140 rfl (lv_at hl 2 rfl) ?_
    replace hf := b1_i hf
    obtain ⟨q25, e7, hf⟩ := hf
    refine mm_getA F hH mc_2 (k := 13) (by decide) (hts _ q1060) (fun _ h => h) e7 dX2_does_141 ?_
    refine lv_iconst (v := 4) hx hb dX2_does_144 (by decide) ?_
    refine lv_iload_n hx hb dX2_does_145 rfl (lv_at hl 3 rfl) ?_
    refine lv_imul hx hb dX2_does_146 ?_
    refine lv_iconst (v := 3) hx hb dX2_does_147 (by decide) ?_
    refine lv_iadd hx hb dX2_does_148 ?_
    replace hf := b1_i hf
    obtain ⟨v26, e8, hf⟩ := hf
    refine mm_iald F hH e8 dX2_does_149 ?_
    replace hf := b1_i hf
    obtain ⟨u, e9, hf⟩ := hf
    obtain ⟨fs, ek⟩ := ck_i e9
    replace hf := b2_i hf
    obtain ⟨v27, σ28, e10, hf⟩ := hf
    refine mm_ci (va_runV (As := [.int v2, .int v4, .int v26]) (rest := []) ⟨hx, hb, hml, hown, hts⟩ (m_X2_setField l G h0 v2 v4 v26 σ σ28 v27 e10) (cwV 3 hts (lw_V q1319 q1153 q1154 q67 q1155) rfl rfl rfl (by decide +kernel) ⟨Nat.le_of_ble_eq_true rfl, Nat.le_of_ble_eq_true rfl⟩) (mm_preV F.2.2.2.2.2 hH (ci := 2) rfl ek) rfl rfl hl.1 rfl (lv_room (Nat.le_of_ble_eq_true rfl)) dX2_does_150 ⟨Nat.le_of_ble_eq_true rfl, Nat.le_of_ble_eq_true rfl⟩) hH (fun H locs hH => ?_)
    obtain ⟨h1, h2⟩ := Prod.mk.inj (Option.some.inj hf)
    subst h1
    subst h2
    exact mm_reti F hH hr hlocks rfl rfl dX2_does_153
  · rw [if_neg c7] at hf
    by_cases c8 : v6 = (103 : Int32)
    · rw [if_pos c8] at hf
      refine lv_tableIn (off := 138) (tgt := 168) hx hb dX2_does_30 (by rw [c8]; decide) (by rw [c8]; decide) (by rw [c8]; rfl) (by decide) ?_
      refine lv_aload_n hx hb dX2_does_168 rfl (lv_at hl 2 rfl) ?_
      replace hf := b1_i hf
      obtain ⟨u, e11, hf⟩ := hf
      obtain ⟨fs, ek⟩ := ck_i e11
      replace hf := b2_i hf
      obtain ⟨v29, σ30, e12, hf⟩ := hf
      refine mm_ci (va_runV (As := []) (rest := []) ⟨hx, hb, hml, hown, hts⟩ (m_X2_collect l G h0 σ σ30 v29 e12) (cwV 0 hts (lw_V q1321 q1204 q1205 q67 q1206) rfl rfl rfl (by decide +kernel) ⟨Nat.le_of_ble_eq_true rfl, Nat.le_of_ble_eq_true rfl⟩) (mm_preV F.2.2.2.2.2 hH (ci := 2) rfl ek) rfl rfl hl.1 rfl (lv_room (Nat.le_of_ble_eq_true rfl)) dX2_does_169 ⟨Nat.le_of_ble_eq_true rfl, Nat.le_of_ble_eq_true rfl⟩) hH (fun H locs hH => ?_)
      obtain ⟨h1, h2⟩ := Prod.mk.inj (Option.some.inj hf)
      subst h1
      subst h2
      exact mm_reti F hH hr hlocks rfl rfl dX2_does_172
    · rw [if_neg c8] at hf
      by_cases c9 : v6 = (104 : Int32)
      · rw [if_pos c9] at hf
        refine lv_tableIn (off := 138) (tgt := 168) hx hb dX2_does_30 (by rw [c9]; decide) (by rw [c9]; decide) (by rw [c9]; rfl) (by decide) ?_
        refine lv_aload_n hx hb dX2_does_168 rfl (lv_at hl 2 rfl) ?_
        replace hf := b1_i hf
        obtain ⟨u, e13, hf⟩ := hf
        obtain ⟨fs, ek⟩ := ck_i e13
        replace hf := b2_i hf
        obtain ⟨v31, σ32, e14, hf⟩ := hf
        refine mm_ci (va_runV (As := []) (rest := []) ⟨hx, hb, hml, hown, hts⟩ (m_X2_collect l G h0 σ σ32 v31 e14) (cwV 0 hts (lw_V q1321 q1204 q1205 q67 q1206) rfl rfl rfl (by decide +kernel) ⟨Nat.le_of_ble_eq_true rfl, Nat.le_of_ble_eq_true rfl⟩) (mm_preV F.2.2.2.2.2 hH (ci := 2) rfl ek) rfl rfl hl.1 rfl (lv_room (Nat.le_of_ble_eq_true rfl)) dX2_does_169 ⟨Nat.le_of_ble_eq_true rfl, Nat.le_of_ble_eq_true rfl⟩) hH (fun H locs hH => ?_)
        obtain ⟨h1, h2⟩ := Prod.mk.inj (Option.some.inj hf)
        subst h1
        subst h2
        exact mm_reti F hH hr hlocks rfl rfl dX2_does_172
      · rw [if_neg c9] at hf
        by_cases c10 : v6 = (105 : Int32)
        · rw [if_pos c10] at hf
          refine lv_tableIn (off := 138) (tgt := 168) hx hb dX2_does_30 (by rw [c10]; decide) (by rw [c10]; decide) (by rw [c10]; rfl) (by decide) ?_
          refine lv_aload_n hx hb dX2_does_168 rfl (lv_at hl 2 rfl) ?_
          replace hf := b1_i hf
          obtain ⟨u, e15, hf⟩ := hf
          obtain ⟨fs, ek⟩ := ck_i e15
          replace hf := b2_i hf
          obtain ⟨v33, σ34, e16, hf⟩ := hf
          refine mm_ci (va_runV (As := []) (rest := []) ⟨hx, hb, hml, hown, hts⟩ (m_X2_collect l G h0 σ σ34 v33 e16) (cwV 0 hts (lw_V q1321 q1204 q1205 q67 q1206) rfl rfl rfl (by decide +kernel) ⟨Nat.le_of_ble_eq_true rfl, Nat.le_of_ble_eq_true rfl⟩) (mm_preV F.2.2.2.2.2 hH (ci := 2) rfl ek) rfl rfl hl.1 rfl (lv_room (Nat.le_of_ble_eq_true rfl)) dX2_does_169 ⟨Nat.le_of_ble_eq_true rfl, Nat.le_of_ble_eq_true rfl⟩) hH (fun H locs hH => ?_)
          obtain ⟨h1, h2⟩ := Prod.mk.inj (Option.some.inj hf)
          subst h1
          subst h2
          exact mm_reti F hH hr hlocks rfl rfl dX2_does_172
        · rw [if_neg c10] at hf
          by_cases c11 : v6 = (106 : Int32)
          · rw [if_pos c11] at hf
            refine lv_tableIn (off := 138) (tgt := 168) hx hb dX2_does_30 (by rw [c11]; decide) (by rw [c11]; decide) (by rw [c11]; rfl) (by decide) ?_
            refine lv_aload_n hx hb dX2_does_168 rfl (lv_at hl 2 rfl) ?_
            replace hf := b1_i hf
            obtain ⟨u, e17, hf⟩ := hf
            obtain ⟨fs, ek⟩ := ck_i e17
            replace hf := b2_i hf
            obtain ⟨v35, σ36, e18, hf⟩ := hf
            refine mm_ci (va_runV (As := []) (rest := []) ⟨hx, hb, hml, hown, hts⟩ (m_X2_collect l G h0 σ σ36 v35 e18) (cwV 0 hts (lw_V q1321 q1204 q1205 q67 q1206) rfl rfl rfl (by decide +kernel) ⟨Nat.le_of_ble_eq_true rfl, Nat.le_of_ble_eq_true rfl⟩) (mm_preV F.2.2.2.2.2 hH (ci := 2) rfl ek) rfl rfl hl.1 rfl (lv_room (Nat.le_of_ble_eq_true rfl)) dX2_does_169 ⟨Nat.le_of_ble_eq_true rfl, Nat.le_of_ble_eq_true rfl⟩) hH (fun H locs hH => ?_)
            obtain ⟨h1, h2⟩ := Prod.mk.inj (Option.some.inj hf)
            subst h1
            subst h2
            exact mm_reti F hH hr hlocks rfl rfl dX2_does_172
          · rw [if_neg c11] at hf
            by_cases c12 : v6 = (107 : Int32)
            · rw [if_pos c12] at hf
              refine lv_tableIn (off := 138) (tgt := 168) hx hb dX2_does_30 (by rw [c12]; decide) (by rw [c12]; decide) (by rw [c12]; rfl) (by decide) ?_
              refine lv_aload_n hx hb dX2_does_168 rfl (lv_at hl 2 rfl) ?_
              replace hf := b1_i hf
              obtain ⟨u, e19, hf⟩ := hf
              obtain ⟨fs, ek⟩ := ck_i e19
              replace hf := b2_i hf
              obtain ⟨v37, σ38, e20, hf⟩ := hf
              refine mm_ci (va_runV (As := []) (rest := []) ⟨hx, hb, hml, hown, hts⟩ (m_X2_collect l G h0 σ σ38 v37 e20) (cwV 0 hts (lw_V q1321 q1204 q1205 q67 q1206) rfl rfl rfl (by decide +kernel) ⟨Nat.le_of_ble_eq_true rfl, Nat.le_of_ble_eq_true rfl⟩) (mm_preV F.2.2.2.2.2 hH (ci := 2) rfl ek) rfl rfl hl.1 rfl (lv_room (Nat.le_of_ble_eq_true rfl)) dX2_does_169 ⟨Nat.le_of_ble_eq_true rfl, Nat.le_of_ble_eq_true rfl⟩) hH (fun H locs hH => ?_)
              obtain ⟨h1, h2⟩ := Prod.mk.inj (Option.some.inj hf)
              subst h1
              subst h2
              exact mm_reti F hH hr hlocks rfl rfl dX2_does_172
            · rw [if_neg c12] at hf
              by_cases c13 : v6 = (108 : Int32)
              · rw [if_pos c13] at hf
                refine lv_tableIn (off := 138) (tgt := 168) hx hb dX2_does_30 (by rw [c13]; decide) (by rw [c13]; decide) (by rw [c13]; rfl) (by decide) ?_
                refine lv_aload_n hx hb dX2_does_168 rfl (lv_at hl 2 rfl) ?_
                replace hf := b1_i hf
                obtain ⟨u, e21, hf⟩ := hf
                obtain ⟨fs, ek⟩ := ck_i e21
                replace hf := b2_i hf
                obtain ⟨v39, σ40, e22, hf⟩ := hf
                refine mm_ci (va_runV (As := []) (rest := []) ⟨hx, hb, hml, hown, hts⟩ (m_X2_collect l G h0 σ σ40 v39 e22) (cwV 0 hts (lw_V q1321 q1204 q1205 q67 q1206) rfl rfl rfl (by decide +kernel) ⟨Nat.le_of_ble_eq_true rfl, Nat.le_of_ble_eq_true rfl⟩) (mm_preV F.2.2.2.2.2 hH (ci := 2) rfl ek) rfl rfl hl.1 rfl (lv_room (Nat.le_of_ble_eq_true rfl)) dX2_does_169 ⟨Nat.le_of_ble_eq_true rfl, Nat.le_of_ble_eq_true rfl⟩) hH (fun H locs hH => ?_)
                obtain ⟨h1, h2⟩ := Prod.mk.inj (Option.some.inj hf)
                subst h1
                subst h2
                exact mm_reti F hH hr hlocks rfl rfl dX2_does_172
              · rw [if_neg c13] at hf
                by_cases c14 : v6 = (109 : Int32)
                · rw [if_pos c14] at hf
                  refine lv_tableIn (off := 138) (tgt := 168) hx hb dX2_does_30 (by rw [c14]; decide) (by rw [c14]; decide) (by rw [c14]; rfl) (by decide) ?_
                  refine lv_aload_n hx hb dX2_does_168 rfl (lv_at hl 2 rfl) ?_
                  replace hf := b1_i hf
                  obtain ⟨u, e23, hf⟩ := hf
                  obtain ⟨fs, ek⟩ := ck_i e23
                  replace hf := b2_i hf
                  obtain ⟨v41, σ42, e24, hf⟩ := hf
                  refine mm_ci (va_runV (As := []) (rest := []) ⟨hx, hb, hml, hown, hts⟩ (m_X2_collect l G h0 σ σ42 v41 e24) (cwV 0 hts (lw_V q1321 q1204 q1205 q67 q1206) rfl rfl rfl (by decide +kernel) ⟨Nat.le_of_ble_eq_true rfl, Nat.le_of_ble_eq_true rfl⟩) (mm_preV F.2.2.2.2.2 hH (ci := 2) rfl ek) rfl rfl hl.1 rfl (lv_room (Nat.le_of_ble_eq_true rfl)) dX2_does_169 ⟨Nat.le_of_ble_eq_true rfl, Nat.le_of_ble_eq_true rfl⟩) hH (fun H locs hH => ?_)
                  obtain ⟨h1, h2⟩ := Prod.mk.inj (Option.some.inj hf)
                  subst h1
                  subst h2
                  exact mm_reti F hH hr hlocks rfl rfl dX2_does_172
                · rw [if_neg c14] at hf
                  by_cases c15 : v6 = (110 : Int32)
                  · rw [if_pos c15] at hf
                    refine lv_tableIn (off := 86) (tgt := 116) hx hb dX2_does_30 (by rw [c15]; decide) (by rw [c15]; decide) (by rw [c15]; rfl) (by decide) ?_
                    refine lv_aload_n hx hb dX2_does_116 rfl (lv_at hl 2 rfl) ?_
                    refine lv_iload_n hx hb dX2_does_117 rfl (lv_at hl 1 rfl) ?_
                    refine lv_iload_n hx hb dX2_does_118 rfl (lv_at hl 0 rfl) ?_
                    replace hf := b1_i hf
                    obtain ⟨u, e25, hf⟩ := hf
                    obtain ⟨fs, ek⟩ := ck_i e25
                    replace hf := b2_i hf
                    obtain ⟨v43, σ44, e26, hf⟩ := hf
                    refine mm_ci (va_runV (As := [.int v2, .int v4]) (rest := []) ⟨hx, hb, hml, hown, hts⟩ (m_X2_alloc l G h0 v2 v4 σ σ44 v43 e26) (cwV 2 hts (lw_V q1316 q1112 q1113 q67 q1114) rfl rfl rfl (by decide +kernel) ⟨Nat.le_of_ble_eq_true rfl, Nat.le_of_ble_eq_true rfl⟩) (mm_preV F.2.2.2.2.2 hH (ci := 2) rfl ek) rfl rfl hl.1 rfl (lv_room (Nat.le_of_ble_eq_true rfl)) dX2_does_119 ⟨Nat.le_of_ble_eq_true rfl, Nat.le_of_ble_eq_true rfl⟩) hH (fun H locs hH => ?_)
                    obtain ⟨h1, h2⟩ := Prod.mk.inj (Option.some.inj hf)
                    subst h1
                    subst h2
                    exact mm_reti F hH hr hlocks rfl rfl dX2_does_122
                  · rw [if_neg c15] at hf
                    by_cases c16 : v6 = (111 : Int32)
                    · rw [if_pos c16] at hf
                      refine lv_tableIn (off := 138) (tgt := 168) hx hb dX2_does_30 (by rw [c16]; decide) (by rw [c16]; decide) (by rw [c16]; rfl) (by decide) ?_
                      refine lv_aload_n hx hb dX2_does_168 rfl (lv_at hl 2 rfl) ?_
                      replace hf := b1_i hf
                      obtain ⟨u, e27, hf⟩ := hf
                      obtain ⟨fs, ek⟩ := ck_i e27
                      replace hf := b2_i hf
                      obtain ⟨v45, σ46, e28, hf⟩ := hf
                      refine mm_ci (va_runV (As := []) (rest := []) ⟨hx, hb, hml, hown, hts⟩ (m_X2_collect l G h0 σ σ46 v45 e28) (cwV 0 hts (lw_V q1321 q1204 q1205 q67 q1206) rfl rfl rfl (by decide +kernel) ⟨Nat.le_of_ble_eq_true rfl, Nat.le_of_ble_eq_true rfl⟩) (mm_preV F.2.2.2.2.2 hH (ci := 2) rfl ek) rfl rfl hl.1 rfl (lv_room (Nat.le_of_ble_eq_true rfl)) dX2_does_169 ⟨Nat.le_of_ble_eq_true rfl, Nat.le_of_ble_eq_true rfl⟩) hH (fun H locs hH => ?_)
                      obtain ⟨h1, h2⟩ := Prod.mk.inj (Option.some.inj hf)
                      subst h1
                      subst h2
                      exact mm_reti F hH hr hlocks rfl rfl dX2_does_172
                    · rw [if_neg c16] at hf
                      by_cases c17 : v6 = (112 : Int32)
                      · rw [if_pos c17] at hf
                        refine lv_tableIn (off := 124) (tgt := 154) hx hb dX2_does_30 (by rw [c17]; decide) (by rw [c17]; decide) (by rw [c17]; rfl) (by decide) ?_
                        refine lv_aload_n hx hb dX2_does_154 rfl (lv_at hl 2 rfl) ?_
                        refine lv_iload_n hx hb dX2_does_155 rfl (lv_at hl 1 rfl) ?_
                        refine lv_iconst (v := 1) hx hb dX2_does_156 (by decide) ?_
                        replace hf := b1_i hf
                        obtain ⟨u, e29, hf⟩ := hf
                        obtain ⟨fs, ek⟩ := ck_i e29
                        replace hf := b2_i hf
                        obtain ⟨v47, σ48, e30, hf⟩ := hf
                        refine mm_ci (va_runV (As := [.int v2, .int (1 : Int32)]) (rest := []) ⟨hx, hb, hml, hown, hts⟩ (m_X2_pin l G h0 v2 (1 : Int32) σ σ48 v47 e30) (cwV 2 hts (lw_V q1320 q1175 q1176 q67 q1177) rfl rfl rfl (by decide +kernel) ⟨Nat.le_of_ble_eq_true rfl, Nat.le_of_ble_eq_true rfl⟩) (mm_preV F.2.2.2.2.2 hH (ci := 2) rfl ek) rfl rfl hl.1 rfl (lv_room (Nat.le_of_ble_eq_true rfl)) dX2_does_157 ⟨Nat.le_of_ble_eq_true rfl, Nat.le_of_ble_eq_true rfl⟩) hH (fun H locs hH => ?_)
                        obtain ⟨h1, h2⟩ := Prod.mk.inj (Option.some.inj hf)
                        subst h1
                        subst h2
                        exact mm_reti F hH hr hlocks rfl rfl dX2_does_160
                      · rw [if_neg c17] at hf
                        by_cases c18 : v6 = (113 : Int32)
                        · rw [if_pos c18] at hf
                          refine lv_tableIn (off := 138) (tgt := 168) hx hb dX2_does_30 (by rw [c18]; decide) (by rw [c18]; decide) (by rw [c18]; rfl) (by decide) ?_
                          refine lv_aload_n hx hb dX2_does_168 rfl (lv_at hl 2 rfl) ?_
                          replace hf := b1_i hf
                          obtain ⟨u, e31, hf⟩ := hf
                          obtain ⟨fs, ek⟩ := ck_i e31
                          replace hf := b2_i hf
                          obtain ⟨v49, σ50, e32, hf⟩ := hf
                          refine mm_ci (va_runV (As := []) (rest := []) ⟨hx, hb, hml, hown, hts⟩ (m_X2_collect l G h0 σ σ50 v49 e32) (cwV 0 hts (lw_V q1321 q1204 q1205 q67 q1206) rfl rfl rfl (by decide +kernel) ⟨Nat.le_of_ble_eq_true rfl, Nat.le_of_ble_eq_true rfl⟩) (mm_preV F.2.2.2.2.2 hH (ci := 2) rfl ek) rfl rfl hl.1 rfl (lv_room (Nat.le_of_ble_eq_true rfl)) dX2_does_169 ⟨Nat.le_of_ble_eq_true rfl, Nat.le_of_ble_eq_true rfl⟩) hH (fun H locs hH => ?_)
                          obtain ⟨h1, h2⟩ := Prod.mk.inj (Option.some.inj hf)
                          subst h1
                          subst h2
                          exact mm_reti F hH hr hlocks rfl rfl dX2_does_172
                        · rw [if_neg c18] at hf
                          by_cases c19 : v6 = (114 : Int32)
                          · rw [if_pos c19] at hf
                            refine lv_tableIn (off := 93) (tgt := 123) hx hb dX2_does_30 (by rw [c19]; decide) (by rw [c19]; decide) (by rw [c19]; rfl) (by decide) ?_
                            refine lv_aload_n hx hb dX2_does_123 rfl (lv_at hl 2 rfl) ?_
                            refine lv_iload_n hx hb dX2_does_124 rfl (lv_at hl 1 rfl) ?_
                            refine lv_iload_n hx hb dX2_does_125 rfl (lv_at hl 0 rfl) ?_
                            replace hf := b1_i hf
                            obtain ⟨u, e33, hf⟩ := hf
                            obtain ⟨fs, ek⟩ := ck_i e33
                            replace hf := b2_i hf
                            obtain ⟨v51, σ52, e34, hf⟩ := hf
                            refine mm_ci (va_runV (As := [.int v2, .int v4]) (rest := []) ⟨hx, hb, hml, hown, hts⟩ (m_X2_setRoot l G h0 v2 v4 σ σ52 v51 e34) (cwV 2 hts (lw_V q1317 q1184 q1185 q67 q1186) rfl rfl rfl (by decide +kernel) ⟨Nat.le_of_ble_eq_true rfl, Nat.le_of_ble_eq_true rfl⟩) (mm_preV F.2.2.2.2.2 hH (ci := 2) rfl ek) rfl rfl hl.1 rfl (lv_room (Nat.le_of_ble_eq_true rfl)) dX2_does_126 ⟨Nat.le_of_ble_eq_true rfl, Nat.le_of_ble_eq_true rfl⟩) hH (fun H locs hH => ?_)
                            obtain ⟨h1, h2⟩ := Prod.mk.inj (Option.some.inj hf)
                            subst h1
                            subst h2
                            exact mm_reti F hH hr hlocks rfl rfl dX2_does_129
                          · rw [if_neg c19] at hf
                            by_cases c20 : v6 = (115 : Int32)
                            · rw [if_pos c20] at hf
                              refine lv_tableIn (off := 138) (tgt := 168) hx hb dX2_does_30 (by rw [c20]; decide) (by rw [c20]; decide) (by rw [c20]; rfl) (by decide) ?_
                              refine lv_aload_n hx hb dX2_does_168 rfl (lv_at hl 2 rfl) ?_
                              replace hf := b1_i hf
                              obtain ⟨u, e35, hf⟩ := hf
                              obtain ⟨fs, ek⟩ := ck_i e35
                              replace hf := b2_i hf
                              obtain ⟨v53, σ54, e36, hf⟩ := hf
                              refine mm_ci (va_runV (As := []) (rest := []) ⟨hx, hb, hml, hown, hts⟩ (m_X2_collect l G h0 σ σ54 v53 e36) (cwV 0 hts (lw_V q1321 q1204 q1205 q67 q1206) rfl rfl rfl (by decide +kernel) ⟨Nat.le_of_ble_eq_true rfl, Nat.le_of_ble_eq_true rfl⟩) (mm_preV F.2.2.2.2.2 hH (ci := 2) rfl ek) rfl rfl hl.1 rfl (lv_room (Nat.le_of_ble_eq_true rfl)) dX2_does_169 ⟨Nat.le_of_ble_eq_true rfl, Nat.le_of_ble_eq_true rfl⟩) hH (fun H locs hH => ?_)
                              obtain ⟨h1, h2⟩ := Prod.mk.inj (Option.some.inj hf)
                              subst h1
                              subst h2
                              exact mm_reti F hH hr hlocks rfl rfl dX2_does_172
                            · rw [if_neg c20] at hf
                              by_cases c21 : v6 = (116 : Int32)
                              · rw [if_pos c21] at hf
                                refine lv_tableIn (off := 138) (tgt := 168) hx hb dX2_does_30 (by rw [c21]; decide) (by rw [c21]; decide) (by rw [c21]; rfl) (by decide) ?_
                                refine lv_aload_n hx hb dX2_does_168 rfl (lv_at hl 2 rfl) ?_
                                replace hf := b1_i hf
                                obtain ⟨u, e37, hf⟩ := hf
                                obtain ⟨fs, ek⟩ := ck_i e37
                                replace hf := b2_i hf
                                obtain ⟨v55, σ56, e38, hf⟩ := hf
                                refine mm_ci (va_runV (As := []) (rest := []) ⟨hx, hb, hml, hown, hts⟩ (m_X2_collect l G h0 σ σ56 v55 e38) (cwV 0 hts (lw_V q1321 q1204 q1205 q67 q1206) rfl rfl rfl (by decide +kernel) ⟨Nat.le_of_ble_eq_true rfl, Nat.le_of_ble_eq_true rfl⟩) (mm_preV F.2.2.2.2.2 hH (ci := 2) rfl ek) rfl rfl hl.1 rfl (lv_room (Nat.le_of_ble_eq_true rfl)) dX2_does_169 ⟨Nat.le_of_ble_eq_true rfl, Nat.le_of_ble_eq_true rfl⟩) hH (fun H locs hH => ?_)
                                obtain ⟨h1, h2⟩ := Prod.mk.inj (Option.some.inj hf)
                                subst h1
                                subst h2
                                exact mm_reti F hH hr hlocks rfl rfl dX2_does_172
                              · rw [if_neg c21] at hf
                                by_cases c22 : v6 = (117 : Int32)
                                · rw [if_pos c22] at hf
                                  refine lv_tableIn (off := 131) (tgt := 161) hx hb dX2_does_30 (by rw [c22]; decide) (by rw [c22]; decide) (by rw [c22]; rfl) (by decide) ?_
                                  refine lv_aload_n hx hb dX2_does_161 rfl (lv_at hl 2 rfl) ?_
                                  refine lv_iload_n hx hb dX2_does_162 rfl (lv_at hl 1 rfl) ?_
                                  refine lv_iconst (v := 0) hx hb dX2_does_163 (by decide) ?_
                                  replace hf := b1_i hf
                                  obtain ⟨u, e39, hf⟩ := hf
                                  obtain ⟨fs, ek⟩ := ck_i e39
                                  replace hf := b2_i hf
                                  obtain ⟨v57, σ58, e40, hf⟩ := hf
                                  refine mm_ci (va_runV (As := [.int v2, .int (0 : Int32)]) (rest := []) ⟨hx, hb, hml, hown, hts⟩ (m_X2_pin l G h0 v2 (0 : Int32) σ σ58 v57 e40) (cwV 2 hts (lw_V q1320 q1175 q1176 q67 q1177) rfl rfl rfl (by decide +kernel) ⟨Nat.le_of_ble_eq_true rfl, Nat.le_of_ble_eq_true rfl⟩) (mm_preV F.2.2.2.2.2 hH (ci := 2) rfl ek) rfl rfl hl.1 rfl (lv_room (Nat.le_of_ble_eq_true rfl)) dX2_does_164 ⟨Nat.le_of_ble_eq_true rfl, Nat.le_of_ble_eq_true rfl⟩) hH (fun H locs hH => ?_)
                                  obtain ⟨h1, h2⟩ := Prod.mk.inj (Option.some.inj hf)
                                  subst h1
                                  subst h2
                                  exact mm_reti F hH hr hlocks rfl rfl dX2_does_167
                                · rw [if_neg c22] at hf
                                  by_cases c23 : v6 = (118 : Int32)
                                  · rw [if_pos c23] at hf
                                    refine lv_tableIn (off := 138) (tgt := 168) hx hb dX2_does_30 (by rw [c23]; decide) (by rw [c23]; decide) (by rw [c23]; rfl) (by decide) ?_
                                    refine lv_aload_n hx hb dX2_does_168 rfl (lv_at hl 2 rfl) ?_
                                    replace hf := b1_i hf
                                    obtain ⟨u, e41, hf⟩ := hf
                                    obtain ⟨fs, ek⟩ := ck_i e41
                                    replace hf := b2_i hf
                                    obtain ⟨v59, σ60, e42, hf⟩ := hf
                                    refine mm_ci (va_runV (As := []) (rest := []) ⟨hx, hb, hml, hown, hts⟩ (m_X2_collect l G h0 σ σ60 v59 e42) (cwV 0 hts (lw_V q1321 q1204 q1205 q67 q1206) rfl rfl rfl (by decide +kernel) ⟨Nat.le_of_ble_eq_true rfl, Nat.le_of_ble_eq_true rfl⟩) (mm_preV F.2.2.2.2.2 hH (ci := 2) rfl ek) rfl rfl hl.1 rfl (lv_room (Nat.le_of_ble_eq_true rfl)) dX2_does_169 ⟨Nat.le_of_ble_eq_true rfl, Nat.le_of_ble_eq_true rfl⟩) hH (fun H locs hH => ?_)
                                    obtain ⟨h1, h2⟩ := Prod.mk.inj (Option.some.inj hf)
                                    subst h1
                                    subst h2
                                    exact mm_reti F hH hr hlocks rfl rfl dX2_does_172
                                  · rw [if_neg c23] at hf
                                    by_cases c24 : v6 = (119 : Int32)
                                    · rw [if_pos c24] at hf
                                      refine lv_tableIn (off := 100) (tgt := 130) hx hb dX2_does_30 (by rw [c24]; decide) (by rw [c24]; decide) (by rw [c24]; rfl) (by decide) ?_
                                      refine lv_aload_n hx hb dX2_does_130 rfl (lv_at hl 2 rfl) ?_
                                      refine lv_iload_n hx hb dX2_does_131 rfl (lv_at hl 1 rfl) ?_
                                      refine lv_iload_n hx hb dX2_does_132 rfl (lv_at hl 0 rfl) ?_
                                      replace hf := b1_i hf
                                      obtain ⟨u, e43, hf⟩ := hf
                                      obtain ⟨fs, ek⟩ := ck_i e43
                                      replace hf := b2_i hf
                                      obtain ⟨v61, σ62, e44, hf⟩ := hf
                                      refine mm_ci (va_runV (As := [.int v2, .int v4]) (rest := []) ⟨hx, hb, hml, hown, hts⟩ (m_X2_setWeak l G h0 v2 v4 σ σ62 v61 e44) (cwV 2 hts (lw_V q1318 q1196 q1197 q67 q1198) rfl rfl rfl (by decide +kernel) ⟨Nat.le_of_ble_eq_true rfl, Nat.le_of_ble_eq_true rfl⟩) (mm_preV F.2.2.2.2.2 hH (ci := 2) rfl ek) rfl rfl hl.1 rfl (lv_room (Nat.le_of_ble_eq_true rfl)) dX2_does_133 ⟨Nat.le_of_ble_eq_true rfl, Nat.le_of_ble_eq_true rfl⟩) hH (fun H locs hH => ?_)
                                      obtain ⟨h1, h2⟩ := Prod.mk.inj (Option.some.inj hf)
                                      subst h1
                                      subst h2
                                      exact mm_reti F hH hr hlocks rfl rfl dX2_does_136
                                    · rw [if_neg c24] at hf
                                      refine lv_tableOut (tgt := 168) hx hb dX2_does_30 (by have h0 := lv_neT c7 (a := 102) rfl; have h1 := lv_neT c8 (a := 103) rfl; have h2 := lv_neT c9 (a := 104) rfl; have h3 := lv_neT c10 (a := 105) rfl; have h4 := lv_neT c11 (a := 106) rfl; have h5 := lv_neT c12 (a := 107) rfl; have h6 := lv_neT c13 (a := 108) rfl; have h7 := lv_neT c14 (a := 109) rfl; have h8 := lv_neT c15 (a := 110) rfl; have h9 := lv_neT c16 (a := 111) rfl; have h10 := lv_neT c17 (a := 112) rfl; have h11 := lv_neT c18 (a := 113) rfl; have h12 := lv_neT c19 (a := 114) rfl; have h13 := lv_neT c20 (a := 115) rfl; have h14 := lv_neT c21 (a := 116) rfl; have h15 := lv_neT c22 (a := 117) rfl; have h16 := lv_neT c23 (a := 118) rfl; have h17 := lv_neT c24 (a := 119) rfl; omega) (by decide) ?_
                                      refine lv_aload_n hx hb dX2_does_168 rfl (lv_at hl 2 rfl) ?_
                                      replace hf := b1_i hf
                                      obtain ⟨u, e45, hf⟩ := hf
                                      obtain ⟨fs, ek⟩ := ck_i e45
                                      replace hf := b2_i hf
                                      obtain ⟨v63, σ64, e46, hf⟩ := hf
                                      refine mm_ci (va_runV (As := []) (rest := []) ⟨hx, hb, hml, hown, hts⟩ (m_X2_collect l G h0 σ σ64 v63 e46) (cwV 0 hts (lw_V q1321 q1204 q1205 q67 q1206) rfl rfl rfl (by decide +kernel) ⟨Nat.le_of_ble_eq_true rfl, Nat.le_of_ble_eq_true rfl⟩) (mm_preV F.2.2.2.2.2 hH (ci := 2) rfl ek) rfl rfl hl.1 rfl (lv_room (Nat.le_of_ble_eq_true rfl)) dX2_does_169 ⟨Nat.le_of_ble_eq_true rfl, Nat.le_of_ble_eq_true rfl⟩) hH (fun H locs hH => ?_)
                                      obtain ⟨h1, h2⟩ := Prod.mk.inj (Option.some.inj hf)
                                      subst h1
                                      subst h2
                                      exact mm_reti F hH hr hlocks rfl rfl dX2_does_172
/-! IslandHeapModel.run()I -/
abbrev rm_X2_run : Room := { frames := 8, cells := 0, slots := 0, locals := 184 }
set_option maxHeartbeats 4000000 in
theorem w_X2_run_53 {p : Program} {l : Launch} {e : Env} {s : State} {m : MethodId} {av : Array Value} {below : List Frame} {meth : Method} {c : Code} {G : mm_G} {σf : mm_M} {rr : Int32} {n : Nat} {h0 : Nat} (F : mm_F p s m av c RX2 cX2_run 4 G) (hr : meth.sig.returnType = (Option.some .int)) (hlocks : meth.locks = false) (hname : meth.name = yX2_run.name) (IH20 : ∀ (x1 : Int32) (x2 : Int32) (σ : mm_M) (H : Heap) (locs : List Loc) (ls : Array Slot), mm_H G s σ H locs → lv_has ls 4 [(0, .ref h0), (1, .int x1), (2, .int x2)] → itn (s_X2_run h0) n (x1, x2, σ) = some (rr, σf) → W p l e rm_X2_run s m av below meth c H locs 0 0 (MQ below (mm_Qi G rr σf) av s 0 0 (mm_A G)) (F0 m 20 ls []))  (x1 : Int32) (x2 : Int32) (x3 : Int32) (t0 : Nat) (t1 : Int32) (σ : mm_M) (hf : evn (s_X2_run h0) n (g_X2_run_53 h0 x1 x2 x3 t0 t1 σ) = some (rr, σf)) {H : Heap} {locs : List Loc} {ls : Array Slot} (hH : mm_H G s σ H locs) (hl : lv_has ls 4 [(0, .ref h0), (1, .int x1), (2, .int x2), (3, .int x3)]) : W p l e rm_X2_run s m av below meth c H locs 0 0 (MQ below (mm_Qi G rr σf) av s 0 0 (mm_A G)) (F0 m 53 ls [.int t1, .ref t0]) := by
  have hx := F.1
  have hb := F.2.1
  have hml := F.2.2.1
  have hown := F.2.2.2.1
  have hts := F.2.2.2.2.1
  unfold g_X2_run_53 at hf
  replace hf := evn_b1 hf
  obtain ⟨σ1, e1, hf⟩ := hf
  refine mm_put F hH mc_2 (k := 6) (v := vI t1) (by decide) (hts _ q1053) (fun _ h => h) rfl rfl rfl e1 dX2_run_53 (fun H locs hH => ?_)
  refine lv_iload_n hx hb dX2_run_56 rfl (lv_at hl 1 rfl) ?_
  refine lv_iload_n hx hb dX2_run_57 rfl (lv_at hl 3 rfl) ?_
  refine lv_ldc (v := (-1000002)) hx hb hown (hts _ q1110) dX2_run_58 ?_
  refine lv_icmp_gt (tgt := 67) hx hb dX2_run_60 (by decide) (fun c2 => ?_) (fun c2 => ?_)
  · rw [if_pos c2] at hf
    refine lv_iconst (v := 1) hx hb dX2_run_67 (by decide) ?_
    refine lv_iadd hx hb dX2_run_68 ?_
    refine lv_istore_n (lv' := [(1, .int (x1 + (1 : Int32))), (0, .ref h0), (2, .int x2), (3, .int x3)]) hx hb dX2_run_69 rfl hl (by decide) rfl (fun ls hl => ?_)
    refine lv_iinc (v := x2 + (1 : Int32)) (lv' := [(2, .int (x2 + (1 : Int32))), (1, .int (x1 + (1 : Int32))), (0, .ref h0), (3, .int x3)]) hx hb dX2_run_70 hl (k := 2) rfl rfl (by decide) rfl (fun ls hl => ?_)
    refine lv_goto (tgt := 20) hx hb dX2_run_73 (by decide) ?_
    rw [evn_l] at hf
    exact IH20 (x1 + (1 : Int32)) (x2 + (1 : Int32)) σ1 _ _ _ hH (lv_sub hl [2, 1, 0] rfl) hf
  · rw [if_neg c2] at hf
    refine lv_iconst (v := 0) hx hb dX2_run_63 (by decide) ?_
    refine lv_goto (tgt := 68) hx hb dX2_run_64 (by decide) ?_
    refine lv_iadd hx hb dX2_run_68 ?_
    refine lv_istore_n (lv' := [(1, .int (x1 + (0 : Int32))), (0, .ref h0), (2, .int x2), (3, .int x3)]) hx hb dX2_run_69 rfl hl (by decide) rfl (fun ls hl => ?_)
    refine lv_iinc (v := x2 + (1 : Int32)) (lv' := [(2, .int (x2 + (1 : Int32))), (1, .int (x1 + (0 : Int32))), (0, .ref h0), (3, .int x3)]) hx hb dX2_run_70 hl (k := 2) rfl rfl (by decide) rfl (fun ls hl => ?_)
    refine lv_goto (tgt := 20) hx hb dX2_run_73 (by decide) ?_
    rw [evn_l] at hf
    exact IH20 (x1 + (0 : Int32)) (x2 + (1 : Int32)) σ1 _ _ _ hH (lv_sub hl [2, 1, 0] rfl) hf
set_option maxHeartbeats 4000000 in
theorem w_X2_run_20 {p : Program} {l : Launch} {e : Env} {s : State} {m : MethodId} {av : Array Value} {below : List Frame} {meth : Method} {c : Code} {G : mm_G} {σf : mm_M} {rr : Int32} {n : Nat} {h0 : Nat} (F : mm_F p s m av c RX2 cX2_run 4 G) (hr : meth.sig.returnType = (Option.some .int)) (hlocks : meth.locks = false) (hname : meth.name = yX2_run.name) (IH20 : ∀ (x1 : Int32) (x2 : Int32) (σ : mm_M) (H : Heap) (locs : List Loc) (ls : Array Slot), mm_H G s σ H locs → lv_has ls 4 [(0, .ref h0), (1, .int x1), (2, .int x2)] → itn (s_X2_run h0) n (x1, x2, σ) = some (rr, σf) → W p l e rm_X2_run s m av below meth c H locs 0 0 (MQ below (mm_Qi G rr σf) av s 0 0 (mm_A G)) (F0 m 20 ls []))  (x1 : Int32) (x2 : Int32)  (σ : mm_M) (hf : evn (s_X2_run h0) n (g_X2_run_20 h0 x1 x2 σ) = some (rr, σf)) {H : Heap} {locs : List Loc} {ls : Array Slot} (hH : mm_H G s σ H locs) (hl : lv_has ls 4 [(0, .ref h0), (1, .int x1), (2, .int x2)]) : W p l e rm_X2_run s m av below meth c H locs 0 0 (MQ below (mm_Qi G rr σf) av s 0 0 (mm_A G)) (F0 m 20 ls []) := by
  have hx := F.1
  have hb := F.2.1
  have hml := F.2.2.1
  have hown := F.2.2.2.1
  have hts := F.2.2.2.2.1
  unfold g_X2_run_20 at hf
  refine lv_iload_n hx hb dX2_run_20 rfl (lv_at hl 2 rfl) ?_
  refine lv_aload_n hx hb dX2_run_21 rfl (lv_at hl 0 rfl) ?_
  replace hf := evn_b1 hf
  obtain ⟨v1, e1, hf⟩ := hf
  refine mm_getI F hH mc_2 (k := 14) (by decide) (hts _ q1061) (fun _ h => h) e1 dX2_run_22 ?_
  refine lv_icmp_ge (tgt := 76) hx hb dX2_run_25 (by decide) (fun c2 => ?_) (fun c2 => ?_)
  · rw [if_pos c2] at hf
    refine lv_iload_n hx hb dX2_run_76 rfl (lv_at hl 1 rfl) ?_
    rw [evn_r] at hf
    obtain ⟨h1, h2⟩ := Prod.mk.inj (Option.some.inj hf)
    subst h1
    subst h2
    exact mm_reti F hH hr hlocks rfl rfl dX2_run_77
  · rw [if_neg c2] at hf
    refine lv_aload_n hx hb dX2_run_28 rfl (lv_at hl 0 rfl) ?_
    replace hf := evn_b1 hf
    obtain ⟨v3, e2, hf⟩ := hf
    refine mm_getI F hH mc_2 (k := 6) (by decide) (hts _ q1053) (fun _ h => h) e2 dX2_run_29 ?_
    refine lv_if_ne (tgt := 76) hx hb dX2_run_32 (by decide) (fun c4 => ?_) (fun c4 => ?_)
    · rw [if_neg c4] at hf
      refine lv_iload_n hx hb dX2_run_76 rfl (lv_at hl 1 rfl) ?_
      rw [evn_r] at hf
      obtain ⟨h1, h2⟩ := Prod.mk.inj (Option.some.inj hf)
      subst h1
      subst h2
      exact mm_reti F hH hr hlocks rfl rfl dX2_run_77
    · rw [if_pos c4] at hf
      refine lv_aload_n hx hb dX2_run_35 rfl (lv_at hl 0 rfl) ?_
      refine lv_iload_n hx hb dX2_run_36 rfl (lv_at hl 2 rfl) ?_
      replace hf := evn_b1 hf
      obtain ⟨u, e3, hf⟩ := hf
      obtain ⟨fs, ek⟩ := ck_i e3
      replace hf := evn_b2 hf
      obtain ⟨v5, σ6, e4, hf⟩ := hf
      refine mm_ci (va_runV (As := [.int x2]) (rest := []) ⟨hx, hb, hml, hown, hts⟩ (m_X2_does l G h0 x2 σ σ6 v5 e4) (cwV 1 hts (lw_V q1312 q1314 qs59 q67 q1315) rfl rfl rfl (by decide +kernel) ⟨Nat.le_of_ble_eq_true rfl, Nat.le_of_ble_eq_true rfl⟩) (mm_preV F.2.2.2.2.2 hH (ci := 2) rfl ek) rfl rfl hl.1 rfl (lv_room (Nat.le_of_ble_eq_true rfl)) dX2_run_37 ⟨Nat.le_of_ble_eq_true rfl, Nat.le_of_ble_eq_true rfl⟩) hH (fun H locs hH => ?_)
      refine lv_istore_n (lv' := [(3, .int v5), (0, .ref h0), (1, .int x1), (2, .int x2)]) hx hb dX2_run_40 rfl hl (by decide) rfl (fun ls hl => ?_)
      refine lv_aload_n hx hb dX2_run_41 rfl (lv_at hl 1 rfl) ?_
      refine lv_iload_n hx hb dX2_run_42 rfl (lv_at hl 0 rfl) ?_
      refine lv_ldc (v := (-1000002)) hx hb hown (hts _ q1110) dX2_run_43 ?_
      refine lv_icmp_gt (tgt := 52) hx hb dX2_run_45 (by decide) (fun c7 => ?_) (fun c7 => ?_)
      · rw [if_pos c7] at hf
        refine lv_iconst (v := 0) hx hb dX2_run_52 (by decide) ?_
        exact w_X2_run_53 F hr hlocks hname IH20 x1 x2 v5 h0 (0 : Int32) σ6 hf hH (lv_sub hl [1, 2, 3, 0] rfl)
      · rw [if_neg c7] at hf
        refine lv_iload_n hx hb dX2_run_48 rfl (lv_at hl 0 rfl) ?_
        refine lv_goto (tgt := 53) hx hb dX2_run_49 (by decide) ?_
        exact w_X2_run_53 F hr hlocks hname IH20 x1 x2 v5 h0 v5 σ6 hf hH (lv_sub hl [1, 2, 3, 0] rfl)
set_option maxHeartbeats 4000000 in
theorem w_X2_run_0 {p : Program} {l : Launch} {e : Env} {s : State} {m : MethodId} {av : Array Value} {below : List Frame} {meth : Method} {c : Code} {G : mm_G} {σf : mm_M} {rr : Int32} {n : Nat} {h0 : Nat} (F : mm_F p s m av c RX2 cX2_run 4 G) (hr : meth.sig.returnType = (Option.some .int)) (hlocks : meth.locks = false) (hname : meth.name = yX2_run.name) (IH20 : ∀ (x1 : Int32) (x2 : Int32) (σ : mm_M) (H : Heap) (locs : List Loc) (ls : Array Slot), mm_H G s σ H locs → lv_has ls 4 [(0, .ref h0), (1, .int x1), (2, .int x2)] → itn (s_X2_run h0) n (x1, x2, σ) = some (rr, σf) → W p l e rm_X2_run s m av below meth c H locs 0 0 (MQ below (mm_Qi G rr σf) av s 0 0 (mm_A G)) (F0 m 20 ls []))    (σ : mm_M) (hf : evn (s_X2_run h0) n (g_X2_run_0 h0 σ) = some (rr, σf)) {H : Heap} {locs : List Loc} {ls : Array Slot} (hH : mm_H G s σ H locs) (hl : lv_has ls 4 [(0, .ref h0)]) : W p l e rm_X2_run s m av below meth c H locs 0 0 (MQ below (mm_Qi G rr σf) av s 0 0 (mm_A G)) (F0 m 0 ls []) := by
  have hx := F.1
  have hb := F.2.1
  have hml := F.2.2.1
  have hown := F.2.2.2.1
  have hts := F.2.2.2.2.1
  unfold g_X2_run_0 at hf
  refine lv_aload_n hx hb dX2_run_0 rfl (lv_at hl 0 rfl) ?_
  replace hf := evn_b1 hf
  obtain ⟨u, e1, hf⟩ := hf
  obtain ⟨fs, ek⟩ := ck_i e1
  replace hf := evn_b2 hf
  obtain ⟨v1, σ2, e2, hf⟩ := hf
  refine mm_ci (va_runV (As := []) (rest := []) ⟨hx, hb, hml, hown, hts⟩ (m_X2_fault l G h0 σ σ2 v1 e2) (cwV 0 hts (lw_V q1311 q1272 q1273 q67 q1274) rfl rfl rfl (by decide +kernel) ⟨Nat.le_of_ble_eq_true rfl, Nat.le_of_ble_eq_true rfl⟩) (mm_preV F.2.2.2.2.2 hH (ci := 2) rfl ek) rfl rfl hl.1 rfl (lv_room (Nat.le_of_ble_eq_true rfl)) dX2_run_1 ⟨Nat.le_of_ble_eq_true rfl, Nat.le_of_ble_eq_true rfl⟩) hH (fun H locs hH => ?_)
  refine lv_iconst (v := (-1)) hx hb dX2_run_4 (by decide) ?_
  refine lv_icmp_eq (tgt := 11) hx hb dX2_run_5 (by decide) (fun c3 => ?_) (fun c3 => ?_)
  · rw [if_pos c3] at hf
    refine lv_aload_n hx hb dX2_run_11 rfl (lv_at hl 0 rfl) ?_
    refine lv_iconst (v := 0) hx hb dX2_run_12 (by decide) ?_
    replace hf := evn_b1 hf
    obtain ⟨σ4, e3, hf⟩ := hf
    refine mm_put F hH mc_2 (k := 6) (v := vI (0 : Int32)) (by decide) (hts _ q1053) (fun _ h => h) rfl rfl rfl e3 dX2_run_13 (fun H locs hH => ?_)
    refine lv_iconst (v := 0) hx hb dX2_run_16 (by decide) ?_
    refine lv_istore_n (lv' := [(1, .int (0 : Int32)), (0, .ref h0)]) hx hb dX2_run_17 rfl hl (by decide) rfl (fun ls hl => ?_)
    refine lv_iconst (v := 0) hx hb dX2_run_18 (by decide) ?_
    refine lv_istore_n (lv' := [(2, .int (0 : Int32)), (1, .int (0 : Int32)), (0, .ref h0)]) hx hb dX2_run_19 rfl hl (by decide) rfl (fun ls hl => ?_)
    rw [evn_l] at hf
    exact IH20 (0 : Int32) (0 : Int32) σ4 _ _ _ hH (lv_sub hl [2, 1, 0] rfl) hf
  · rw [if_neg c3] at hf
    refine lv_ldc (v := (-1000003)) hx hb hown (hts _ q1178) dX2_run_8 ?_
    rw [evn_r] at hf
    obtain ⟨h1, h2⟩ := Prod.mk.inj (Option.some.inj hf)
    subst h1
    subst h2
    exact mm_reti F hH hr hlocks rfl rfl dX2_run_10
set_option maxHeartbeats 4000000 in
theorem l_X2_run {p : Program} {l : Launch} {e : Env} {s : State} {m : MethodId} {av : Array Value} {below : List Frame} {meth : Method} {c : Code} {G : mm_G} {σf : mm_M} {rr : Int32} {h0 : Nat} (F : mm_F p s m av c RX2 cX2_run 4 G) (hr : meth.sig.returnType = (Option.some .int)) (hlocks : meth.locks = false) (hname : meth.name = yX2_run.name) : ∀ n : Nat, (∀ (x1 : Int32) (x2 : Int32) (σ : mm_M) (H : Heap) (locs : List Loc) (ls : Array Slot), mm_H G s σ H locs → lv_has ls 4 [(0, .ref h0), (1, .int x1), (2, .int x2)] → itn (s_X2_run h0) n (x1, x2, σ) = some (rr, σf) → W p l e rm_X2_run s m av below meth c H locs 0 0 (MQ below (mm_Qi G rr σf) av s 0 0 (mm_A G)) (F0 m 20 ls [])) := by
  intro n
  induction n with
  | zero =>
    exact fun x1 x2 σ H locs ls hH hl hf => by cases hf
  | succ n ih =>
    have IH20 := ih
    intro x1 x2 σ H locs ls hH hl hf
    rw [itn_s] at hf
    exact w_X2_run_20 F hr hlocks hname IH20 x1 x2 σ hf hH hl
set_option maxHeartbeats 4000000 in
theorem m_X2_run (l : Launch) (G : mm_G) (h0 : Nat) (σ : mm_M) (σf : mm_M) (rr : Int32) (hf : f_X2_run h0 σ = some (rr, σf)) : Met l yX2_run (ws_ yX2_run cX2_run 4 ((Option.some .int))) rm_X2_run (mm_Pc G [.ref h0] σ) (mm_Qi G rr σf) 0 0 (mm_A G) := by
  refine mm_met (by decide) rfl rfl (by  exact Nat.le_of_ble_eq_true rfl) (fun p e s m below meth c ls F hH hr hlocks hname hl => ?_)
  have hl : lv_has ls 4 [(0, .ref h0)] := by  exact hl
  have F : mm_F p s m _ c RX2 cX2_run 4 G := F
  unfold f_X2_run at hf
  obtain ⟨n, hf⟩ := lgo_i hf
  have IH := l_X2_run (l := l) (e := e) (below := below) (rr := rr) (σf := σf) (h0 := h0) F hr hlocks hname n
  exact w_X2_run_0 F hr hlocks hname IH σ hf hH (lv_sub hl [0] rfl)
/-! IslandHeapModel.refusal()I -/
abbrev rm_X2_refusal : Room := { frames := 0, cells := 0, slots := 0, locals := 0 }
set_option maxHeartbeats 4000000 in
theorem m_X2_refusal (l : Launch) (G : mm_G) (h0 : Nat) (σ : mm_M) (rr : Int32) (hf : f_X2_refusal h0 σ = some rr) : Met l yX2_refusal (ws_ yX2_refusal cX2_refusal 1 ((Option.some .int))) rm_X2_refusal (mm_Pc G [.ref h0] σ) (mm_Qi G rr σ) 0 0 (mm_A G) := by
  refine mm_met (by decide) rfl rfl (by  exact Nat.le_of_ble_eq_true rfl) (fun p e s m below meth c ls F hH hr hlocks hname hl => ?_)
  have hl : lv_has ls 1 [(0, .ref h0)] := by  exact hl
  have F : mm_F p s m _ c RX2 cX2_refusal 1 G := F
  have hx := F.1
  have hb := F.2.1
  have hml := F.2.2.1
  have hown := F.2.2.2.1
  have hts := F.2.2.2.2.1
  unfold f_X2_refusal at hf
  refine lv_aload_n hx hb dX2_refusal_0 rfl (lv_at hl 0 rfl) ?_
  replace hf := b1_i hf
  obtain ⟨v1, e1, hf⟩ := hf
  refine mm_getI F hH mc_2 (k := 6) (by decide) (hts _ q1053) (fun _ h => h) e1 dX2_refusal_1 ?_
  have h1 := Option.some.inj hf
  subst h1
  exact mm_reti F hH hr hlocks rfl rfl dX2_refusal_4
/-! IslandHeapModel.save(I)I -/
abbrev rm_X2_save : Room := { frames := 1, cells := 0, slots := 0, locals := 23 }
set_option maxHeartbeats 4000000 in
theorem w_X2_save_14 {p : Program} {l : Launch} {e : Env} {s : State} {m : MethodId} {av : Array Value} {below : List Frame} {meth : Method} {c : Code} {G : mm_G} {σf : mm_M} {rr : Int32} {n : Nat} {h0 : Nat} {x1 : Int32} (F : mm_F p s m av c RX2 cX2_save 3 G) (hr : meth.sig.returnType = (Option.some .int)) (hlocks : meth.locks = false) (hname : meth.name = yX2_save.name) (IH14 : ∀ (x2 : Int32) (σ : mm_M) (H : Heap) (locs : List Loc) (ls : Array Slot), mm_H G s σ H locs → lv_has ls 3 [(0, .ref h0), (1, .int x1), (2, .int x2)] → itn (s_X2_save h0 x1) n (x2, σ) = some (rr, σf) → W p l e rm_X2_save s m av below meth c H locs 0 0 (MQ below (mm_Qi G rr σf) av s 0 0 (mm_A G)) (F0 m 14 ls []))  (x2 : Int32)  (σ : mm_M) (hf : evn (s_X2_save h0 x1) n (g_X2_save_14 h0 x1 x2 σ) = some (rr, σf)) {H : Heap} {locs : List Loc} {ls : Array Slot} (hH : mm_H G s σ H locs) (hl : lv_has ls 3 [(0, .ref h0), (1, .int x1), (2, .int x2)]) : W p l e rm_X2_save s m av below meth c H locs 0 0 (MQ below (mm_Qi G rr σf) av s 0 0 (mm_A G)) (F0 m 14 ls []) := by
  have hx := F.1
  have hb := F.2.1
  have hml := F.2.2.1
  have hown := F.2.2.2.1
  have hts := F.2.2.2.2.1
  unfold g_X2_save_14 at hf
  refine lv_iload_n hx hb dX2_save_14 rfl (lv_at hl 2 rfl) ?_
  refine lv_sipush (v := 1222) hx hb dX2_save_15 (by decide) ?_
  refine lv_icmp_ge (tgt := 45) hx hb dX2_save_18 (by decide) (fun c1 => ?_) (fun c1 => ?_)
  · rw [if_pos c1] at hf
    refine lv_aload_n hx hb dX2_save_45 rfl (lv_at hl 0 rfl) ?_
    replace hf := evn_b1 hf
    obtain ⟨q2, e1, hf⟩ := hf
    refine mm_getA F hH mc_2 (k := 3) (by decide) (hts _ q1050) (fun _ h => h) e1 dX2_save_46 ?_
    refine lv_iload_n hx hb dX2_save_49 rfl (lv_at hl 1 rfl) ?_
    refine lv_iconst (v := 1) hx hb dX2_save_50 (by decide) ?_
    replace hf := evn_b1 hf
    obtain ⟨σ3, e2, hf⟩ := hf
    refine mm_zast F hH e2 dX2_save_51 (fun H locs hH => ?_)
    refine lv_aload_n hx hb dX2_save_52 rfl (lv_at hl 0 rfl) ?_
    refine lv_iconst (v := 0) hx hb dX2_save_53 (by decide) ?_
    replace hf := evn_b1 hf
    obtain ⟨u, e3, hf⟩ := hf
    obtain ⟨fs, ek⟩ := ck_i e3
    replace hf := evn_b1 hf
    obtain ⟨v4, e4, hf⟩ := hf
    refine mm_ci (va_runV (As := [.int (0 : Int32)]) (rest := []) ⟨hx, hb, hml, hown, hts⟩ (m_X2_many l G h0 (0 : Int32) σ3 v4 e4) (cwV 1 hts (lw_V q1179 q1181 qs41 q67 q1182) rfl rfl rfl (by decide +kernel) ⟨Nat.le_of_ble_eq_true rfl, Nat.le_of_ble_eq_true rfl⟩) (mm_preV F.2.2.2.2.2 hH (ci := 2) rfl ek) rfl rfl hl.1 rfl (lv_room (Nat.le_of_ble_eq_true rfl)) dX2_save_54 ⟨Nat.le_of_ble_eq_true rfl, Nat.le_of_ble_eq_true rfl⟩) hH (fun H locs hH => ?_)
    rw [evn_r] at hf
    obtain ⟨h1, h2⟩ := Prod.mk.inj (Option.some.inj hf)
    subst h1
    subst h2
    exact mm_reti F hH hr hlocks rfl rfl dX2_save_57
  · rw [if_neg c1] at hf
    refine lv_aload_n hx hb dX2_save_21 rfl (lv_at hl 0 rfl) ?_
    replace hf := evn_b1 hf
    obtain ⟨q5, e5, hf⟩ := hf
    refine mm_getA F hH mc_2 (k := 2) (by decide) (hts _ q1049) (fun _ h => h) e5 dX2_save_22 ?_
    refine lv_sipush (v := 1222) hx hb dX2_save_25 (by decide) ?_
    refine lv_iload_n hx hb dX2_save_28 rfl (lv_at hl 1 rfl) ?_
    refine lv_imul hx hb dX2_save_29 ?_
    refine lv_iload_n hx hb dX2_save_30 rfl (lv_at hl 2 rfl) ?_
    refine lv_iadd hx hb dX2_save_31 ?_
    refine lv_aload_n hx hb dX2_save_32 rfl (lv_at hl 0 rfl) ?_
    replace hf := evn_b1 hf
    obtain ⟨q6, e6, hf⟩ := hf
    refine mm_getA F hH mc_2 (k := 0) (by decide) (hts _ q1047) (fun _ h => h) e6 dX2_save_33 ?_
    refine lv_iload_n hx hb dX2_save_36 rfl (lv_at hl 2 rfl) ?_
    replace hf := evn_b1 hf
    obtain ⟨v7, e7, hf⟩ := hf
    refine mm_iald F hH e7 dX2_save_37 ?_
    replace hf := evn_b1 hf
    obtain ⟨σ8, e8, hf⟩ := hf
    refine mm_iast F hH e8 dX2_save_38 (fun H locs hH => ?_)
    refine lv_iinc (v := x2 + (1 : Int32)) (lv' := [(2, .int (x2 + (1 : Int32))), (0, .ref h0), (1, .int x1)]) hx hb dX2_save_39 hl (k := 2) rfl rfl (by decide) rfl (fun ls hl => ?_)
    refine lv_goto (tgt := 14) hx hb dX2_save_42 (by decide) ?_
    rw [evn_l] at hf
    exact IH14 (x2 + (1 : Int32)) σ8 _ _ _ hH (lv_sub hl [1, 2, 0] rfl) hf
set_option maxHeartbeats 4000000 in
theorem w_X2_save_0 {p : Program} {l : Launch} {e : Env} {s : State} {m : MethodId} {av : Array Value} {below : List Frame} {meth : Method} {c : Code} {G : mm_G} {σf : mm_M} {rr : Int32} {n : Nat} {h0 : Nat} {x1 : Int32} (F : mm_F p s m av c RX2 cX2_save 3 G) (hr : meth.sig.returnType = (Option.some .int)) (hlocks : meth.locks = false) (hname : meth.name = yX2_save.name) (IH14 : ∀ (x2 : Int32) (σ : mm_M) (H : Heap) (locs : List Loc) (ls : Array Slot), mm_H G s σ H locs → lv_has ls 3 [(0, .ref h0), (1, .int x1), (2, .int x2)] → itn (s_X2_save h0 x1) n (x2, σ) = some (rr, σf) → W p l e rm_X2_save s m av below meth c H locs 0 0 (MQ below (mm_Qi G rr σf) av s 0 0 (mm_A G)) (F0 m 14 ls []))    (σ : mm_M) (hf : evn (s_X2_save h0 x1) n (g_X2_save_0 h0 x1 σ) = some (rr, σf)) {H : Heap} {locs : List Loc} {ls : Array Slot} (hH : mm_H G s σ H locs) (hl : lv_has ls 3 [(0, .ref h0), (1, .int x1)]) : W p l e rm_X2_save s m av below meth c H locs 0 0 (MQ below (mm_Qi G rr σf) av s 0 0 (mm_A G)) (F0 m 0 ls []) := by
  have hx := F.1
  have hb := F.2.1
  have hml := F.2.2.1
  have hown := F.2.2.2.1
  have hts := F.2.2.2.2.1
  unfold g_X2_save_0 at hf
  refine lv_iload_n hx hb dX2_save_0 rfl (lv_at hl 1 rfl) ?_
  refine lv_iconst (v := 0) hx hb dX2_save_1 (by decide) ?_
  refine lv_iconst (v := 1) hx hb dX2_save_2 (by decide) ?_
  replace hf := evn_b1 hf
  obtain ⟨v1, e1, hf⟩ := hf
  refine mm_ci (va_runS (As := [.int x1, .int (0 : Int32), .int (1 : Int32)]) (rest := []) ⟨hx, hb, hml, hown, hts⟩ (m_X2_in l G x1 (0 : Int32) (1 : Int32) σ v1 e1) (va_cwS 3 hts (lw_S q1107 q1108 q67 q1109) rfl rfl rfl (by decide +kernel) ⟨Nat.le_of_ble_eq_true rfl, Nat.le_of_ble_eq_true rfl⟩) (mm_preS F.2.2.2.2.2 hH) rfl rfl hl.1 rfl (lv_room (Nat.le_of_ble_eq_true rfl)) dX2_save_3 ⟨Nat.le_of_ble_eq_true rfl, Nat.le_of_ble_eq_true rfl⟩) hH (fun H locs hH => ?_)
  refine lv_if_ne (tgt := 12) hx hb dX2_save_6 (by decide) (fun c2 => ?_) (fun c2 => ?_)
  · rw [if_neg c2] at hf
    refine lv_iconst (v := 0) hx hb dX2_save_12 (by decide) ?_
    refine lv_istore_n (lv' := [(2, .int (0 : Int32)), (0, .ref h0), (1, .int x1)]) hx hb dX2_save_13 rfl hl (by decide) rfl (fun ls hl => ?_)
    rw [evn_l] at hf
    exact IH14 (0 : Int32) σ _ _ _ hH (lv_sub hl [1, 2, 0] rfl) hf
  · rw [if_pos c2] at hf
    refine lv_ldc (v := (-1000002)) hx hb hown (hts _ q1110) dX2_save_9 ?_
    rw [evn_r] at hf
    obtain ⟨h1, h2⟩ := Prod.mk.inj (Option.some.inj hf)
    subst h1
    subst h2
    exact mm_reti F hH hr hlocks rfl rfl dX2_save_11
set_option maxHeartbeats 4000000 in
theorem l_X2_save {p : Program} {l : Launch} {e : Env} {s : State} {m : MethodId} {av : Array Value} {below : List Frame} {meth : Method} {c : Code} {G : mm_G} {σf : mm_M} {rr : Int32} {h0 : Nat} {x1 : Int32} (F : mm_F p s m av c RX2 cX2_save 3 G) (hr : meth.sig.returnType = (Option.some .int)) (hlocks : meth.locks = false) (hname : meth.name = yX2_save.name) : ∀ n : Nat, (∀ (x2 : Int32) (σ : mm_M) (H : Heap) (locs : List Loc) (ls : Array Slot), mm_H G s σ H locs → lv_has ls 3 [(0, .ref h0), (1, .int x1), (2, .int x2)] → itn (s_X2_save h0 x1) n (x2, σ) = some (rr, σf) → W p l e rm_X2_save s m av below meth c H locs 0 0 (MQ below (mm_Qi G rr σf) av s 0 0 (mm_A G)) (F0 m 14 ls [])) := by
  intro n
  induction n with
  | zero =>
    exact fun x2 σ H locs ls hH hl hf => by cases hf
  | succ n ih =>
    have IH14 := ih
    intro x2 σ H locs ls hH hl hf
    rw [itn_s] at hf
    exact w_X2_save_14 F hr hlocks hname IH14 x2 σ hf hH hl
set_option maxHeartbeats 4000000 in
theorem m_X2_save (l : Launch) (G : mm_G) (h0 : Nat) (x1 : Int32) (σ : mm_M) (σf : mm_M) (rr : Int32) (hf : f_X2_save h0 x1 σ = some (rr, σf)) : Met l yX2_save (ws_ yX2_save cX2_save 3 ((Option.some .int))) rm_X2_save (mm_Pc G [.ref h0, .int x1] σ) (mm_Qi G rr σf) 0 0 (mm_A G) := by
  refine mm_met (by decide) rfl rfl (by  exact Nat.le_of_ble_eq_true rfl) (fun p e s m below meth c ls F hH hr hlocks hname hl => ?_)
  have hl : lv_has ls 3 [(0, .ref h0), (1, .int x1)] := by  exact hl
  have F : mm_F p s m _ c RX2 cX2_save 3 G := F
  unfold f_X2_save at hf
  obtain ⟨n, hf⟩ := lgo_i hf
  have IH := l_X2_save (l := l) (e := e) (below := below) (rr := rr) (σf := σf) (h0 := h0) (x1 := x1) F hr hlocks hname n
  exact w_X2_save_0 F hr hlocks hname IH σ hf hH (lv_sub hl [0, 1] rfl)
/-! IslandHeapModel.restore(I)I -/
abbrev rm_X2_restore : Room := { frames := 1, cells := 0, slots := 0, locals := 23 }
set_option maxHeartbeats 4000000 in
theorem w_X2_restore_26 {p : Program} {l : Launch} {e : Env} {s : State} {m : MethodId} {av : Array Value} {below : List Frame} {meth : Method} {c : Code} {G : mm_G} {σf : mm_M} {rr : Int32} {n : Nat} {h0 : Nat} {x1 : Int32} (F : mm_F p s m av c RX2 cX2_restore 3 G) (hr : meth.sig.returnType = (Option.some .int)) (hlocks : meth.locks = false) (hname : meth.name = yX2_restore.name) (IH26 : ∀ (x2 : Int32) (σ : mm_M) (H : Heap) (locs : List Loc) (ls : Array Slot), mm_H G s σ H locs → lv_has ls 3 [(0, .ref h0), (1, .int x1), (2, .int x2)] → itn (s_X2_restore h0 x1) n (x2, σ) = some (rr, σf) → W p l e rm_X2_restore s m av below meth c H locs 0 0 (MQ below (mm_Qi G rr σf) av s 0 0 (mm_A G)) (F0 m 26 ls []))  (x2 : Int32)  (σ : mm_M) (hf : evn (s_X2_restore h0 x1) n (g_X2_restore_26 h0 x1 x2 σ) = some (rr, σf)) {H : Heap} {locs : List Loc} {ls : Array Slot} (hH : mm_H G s σ H locs) (hl : lv_has ls 3 [(0, .ref h0), (1, .int x1), (2, .int x2)]) : W p l e rm_X2_restore s m av below meth c H locs 0 0 (MQ below (mm_Qi G rr σf) av s 0 0 (mm_A G)) (F0 m 26 ls []) := by
  have hx := F.1
  have hb := F.2.1
  have hml := F.2.2.1
  have hown := F.2.2.2.1
  have hts := F.2.2.2.2.1
  unfold g_X2_restore_26 at hf
  refine lv_iload_n hx hb dX2_restore_26 rfl (lv_at hl 2 rfl) ?_
  refine lv_sipush (v := 1222) hx hb dX2_restore_27 (by decide) ?_
  refine lv_icmp_ge (tgt := 57) hx hb dX2_restore_30 (by decide) (fun c1 => ?_) (fun c1 => ?_)
  · rw [if_pos c1] at hf
    refine lv_aload_n hx hb dX2_restore_57 rfl (lv_at hl 0 rfl) ?_
    refine lv_iconst (v := 0) hx hb dX2_restore_58 (by decide) ?_
    replace hf := evn_b1 hf
    obtain ⟨u, e1, hf⟩ := hf
    obtain ⟨fs, ek⟩ := ck_i e1
    replace hf := evn_b1 hf
    obtain ⟨v2, e2, hf⟩ := hf
    refine mm_ci (va_runV (As := [.int (0 : Int32)]) (rest := []) ⟨hx, hb, hml, hown, hts⟩ (m_X2_many l G h0 (0 : Int32) σ v2 e2) (cwV 1 hts (lw_V q1179 q1181 qs41 q67 q1182) rfl rfl rfl (by decide +kernel) ⟨Nat.le_of_ble_eq_true rfl, Nat.le_of_ble_eq_true rfl⟩) (mm_preV F.2.2.2.2.2 hH (ci := 2) rfl ek) rfl rfl hl.1 rfl (lv_room (Nat.le_of_ble_eq_true rfl)) dX2_restore_59 ⟨Nat.le_of_ble_eq_true rfl, Nat.le_of_ble_eq_true rfl⟩) hH (fun H locs hH => ?_)
    rw [evn_r] at hf
    obtain ⟨h1, h2⟩ := Prod.mk.inj (Option.some.inj hf)
    subst h1
    subst h2
    exact mm_reti F hH hr hlocks rfl rfl dX2_restore_62
  · rw [if_neg c1] at hf
    refine lv_aload_n hx hb dX2_restore_33 rfl (lv_at hl 0 rfl) ?_
    replace hf := evn_b1 hf
    obtain ⟨q3, e3, hf⟩ := hf
    refine mm_getA F hH mc_2 (k := 0) (by decide) (hts _ q1047) (fun _ h => h) e3 dX2_restore_34 ?_
    refine lv_iload_n hx hb dX2_restore_37 rfl (lv_at hl 2 rfl) ?_
    refine lv_aload_n hx hb dX2_restore_38 rfl (lv_at hl 0 rfl) ?_
    replace hf := evn_b1 hf
    obtain ⟨q4, e4, hf⟩ := hf
    refine mm_getA F hH mc_2 (k := 2) (by decide) (hts _ q1049) (fun _ h => h) e4 dX2_restore_39 ?_
    refine lv_sipush (v := 1222) hx hb dX2_restore_42 (by decide) ?_
    refine lv_iload_n hx hb dX2_restore_45 rfl (lv_at hl 1 rfl) ?_
    refine lv_imul hx hb dX2_restore_46 ?_
    refine lv_iload_n hx hb dX2_restore_47 rfl (lv_at hl 2 rfl) ?_
    refine lv_iadd hx hb dX2_restore_48 ?_
    replace hf := evn_b1 hf
    obtain ⟨v5, e5, hf⟩ := hf
    refine mm_iald F hH e5 dX2_restore_49 ?_
    replace hf := evn_b1 hf
    obtain ⟨σ6, e6, hf⟩ := hf
    refine mm_iast F hH e6 dX2_restore_50 (fun H locs hH => ?_)
    refine lv_iinc (v := x2 + (1 : Int32)) (lv' := [(2, .int (x2 + (1 : Int32))), (0, .ref h0), (1, .int x1)]) hx hb dX2_restore_51 hl (k := 2) rfl rfl (by decide) rfl (fun ls hl => ?_)
    refine lv_goto (tgt := 26) hx hb dX2_restore_54 (by decide) ?_
    rw [evn_l] at hf
    exact IH26 (x2 + (1 : Int32)) σ6 _ _ _ hH (lv_sub hl [1, 2, 0] rfl) hf
set_option maxHeartbeats 4000000 in
theorem w_X2_restore_0 {p : Program} {l : Launch} {e : Env} {s : State} {m : MethodId} {av : Array Value} {below : List Frame} {meth : Method} {c : Code} {G : mm_G} {σf : mm_M} {rr : Int32} {n : Nat} {h0 : Nat} {x1 : Int32} (F : mm_F p s m av c RX2 cX2_restore 3 G) (hr : meth.sig.returnType = (Option.some .int)) (hlocks : meth.locks = false) (hname : meth.name = yX2_restore.name) (IH26 : ∀ (x2 : Int32) (σ : mm_M) (H : Heap) (locs : List Loc) (ls : Array Slot), mm_H G s σ H locs → lv_has ls 3 [(0, .ref h0), (1, .int x1), (2, .int x2)] → itn (s_X2_restore h0 x1) n (x2, σ) = some (rr, σf) → W p l e rm_X2_restore s m av below meth c H locs 0 0 (MQ below (mm_Qi G rr σf) av s 0 0 (mm_A G)) (F0 m 26 ls []))    (σ : mm_M) (hf : evn (s_X2_restore h0 x1) n (g_X2_restore_0 h0 x1 σ) = some (rr, σf)) {H : Heap} {locs : List Loc} {ls : Array Slot} (hH : mm_H G s σ H locs) (hl : lv_has ls 3 [(0, .ref h0), (1, .int x1)]) : W p l e rm_X2_restore s m av below meth c H locs 0 0 (MQ below (mm_Qi G rr σf) av s 0 0 (mm_A G)) (F0 m 0 ls []) := by
  have hx := F.1
  have hb := F.2.1
  have hml := F.2.2.1
  have hown := F.2.2.2.1
  have hts := F.2.2.2.2.1
  unfold g_X2_restore_0 at hf
  refine lv_iload_n hx hb dX2_restore_0 rfl (lv_at hl 1 rfl) ?_
  refine lv_iconst (v := 0) hx hb dX2_restore_1 (by decide) ?_
  refine lv_iconst (v := 1) hx hb dX2_restore_2 (by decide) ?_
  replace hf := evn_b1 hf
  obtain ⟨v1, e1, hf⟩ := hf
  refine mm_ci (va_runS (As := [.int x1, .int (0 : Int32), .int (1 : Int32)]) (rest := []) ⟨hx, hb, hml, hown, hts⟩ (m_X2_in l G x1 (0 : Int32) (1 : Int32) σ v1 e1) (va_cwS 3 hts (lw_S q1107 q1108 q67 q1109) rfl rfl rfl (by decide +kernel) ⟨Nat.le_of_ble_eq_true rfl, Nat.le_of_ble_eq_true rfl⟩) (mm_preS F.2.2.2.2.2 hH) rfl rfl hl.1 rfl (lv_room (Nat.le_of_ble_eq_true rfl)) dX2_restore_3 ⟨Nat.le_of_ble_eq_true rfl, Nat.le_of_ble_eq_true rfl⟩) hH (fun H locs hH => ?_)
  refine lv_if_ne (tgt := 12) hx hb dX2_restore_6 (by decide) (fun c2 => ?_) (fun c2 => ?_)
  · rw [if_neg c2] at hf
    refine lv_aload_n hx hb dX2_restore_12 rfl (lv_at hl 0 rfl) ?_
    replace hf := evn_b1 hf
    obtain ⟨q3, e2, hf⟩ := hf
    refine mm_getA F hH mc_2 (k := 3) (by decide) (hts _ q1050) (fun _ h => h) e2 dX2_restore_13 ?_
    refine lv_iload_n hx hb dX2_restore_16 rfl (lv_at hl 1 rfl) ?_
    replace hf := evn_b1 hf
    obtain ⟨v4, e3, hf⟩ := hf
    refine mm_zald F hH e3 dX2_restore_17 ?_
    refine lv_if_ne (tgt := 24) hx hb dX2_restore_18 (by decide) (fun c5 => ?_) (fun c5 => ?_)
    · rw [if_neg c5] at hf
      refine lv_iconst (v := 0) hx hb dX2_restore_24 (by decide) ?_
      refine lv_istore_n (lv' := [(2, .int (0 : Int32)), (0, .ref h0), (1, .int x1)]) hx hb dX2_restore_25 rfl hl (by decide) rfl (fun ls hl => ?_)
      rw [evn_l] at hf
      exact IH26 (0 : Int32) σ _ _ _ hH (lv_sub hl [1, 2, 0] rfl) hf
    · rw [if_pos c5] at hf
      refine lv_ldc (v := (-1000003)) hx hb hown (hts _ q1178) dX2_restore_21 ?_
      rw [evn_r] at hf
      obtain ⟨h1, h2⟩ := Prod.mk.inj (Option.some.inj hf)
      subst h1
      subst h2
      exact mm_reti F hH hr hlocks rfl rfl dX2_restore_23
  · rw [if_pos c2] at hf
    refine lv_ldc (v := (-1000002)) hx hb hown (hts _ q1110) dX2_restore_9 ?_
    rw [evn_r] at hf
    obtain ⟨h1, h2⟩ := Prod.mk.inj (Option.some.inj hf)
    subst h1
    subst h2
    exact mm_reti F hH hr hlocks rfl rfl dX2_restore_11
set_option maxHeartbeats 4000000 in
theorem l_X2_restore {p : Program} {l : Launch} {e : Env} {s : State} {m : MethodId} {av : Array Value} {below : List Frame} {meth : Method} {c : Code} {G : mm_G} {σf : mm_M} {rr : Int32} {h0 : Nat} {x1 : Int32} (F : mm_F p s m av c RX2 cX2_restore 3 G) (hr : meth.sig.returnType = (Option.some .int)) (hlocks : meth.locks = false) (hname : meth.name = yX2_restore.name) : ∀ n : Nat, (∀ (x2 : Int32) (σ : mm_M) (H : Heap) (locs : List Loc) (ls : Array Slot), mm_H G s σ H locs → lv_has ls 3 [(0, .ref h0), (1, .int x1), (2, .int x2)] → itn (s_X2_restore h0 x1) n (x2, σ) = some (rr, σf) → W p l e rm_X2_restore s m av below meth c H locs 0 0 (MQ below (mm_Qi G rr σf) av s 0 0 (mm_A G)) (F0 m 26 ls [])) := by
  intro n
  induction n with
  | zero =>
    exact fun x2 σ H locs ls hH hl hf => by cases hf
  | succ n ih =>
    have IH26 := ih
    intro x2 σ H locs ls hH hl hf
    rw [itn_s] at hf
    exact w_X2_restore_26 F hr hlocks hname IH26 x2 σ hf hH hl
set_option maxHeartbeats 4000000 in
theorem m_X2_restore (l : Launch) (G : mm_G) (h0 : Nat) (x1 : Int32) (σ : mm_M) (σf : mm_M) (rr : Int32) (hf : f_X2_restore h0 x1 σ = some (rr, σf)) : Met l yX2_restore (ws_ yX2_restore cX2_restore 3 ((Option.some .int))) rm_X2_restore (mm_Pc G [.ref h0, .int x1] σ) (mm_Qi G rr σf) 0 0 (mm_A G) := by
  refine mm_met (by decide) rfl rfl (by  exact Nat.le_of_ble_eq_true rfl) (fun p e s m below meth c ls F hH hr hlocks hname hl => ?_)
  have hl : lv_has ls 3 [(0, .ref h0), (1, .int x1)] := by  exact hl
  have F : mm_F p s m _ c RX2 cX2_restore 3 G := F
  unfold f_X2_restore at hf
  obtain ⟨n, hf⟩ := lgo_i hf
  have IH := l_X2_restore (l := l) (e := e) (below := below) (rr := rr) (σf := σf) (h0 := h0) (x1 := x1) F hr hlocks hname n
  exact w_X2_restore_0 F hr hlocks hname IH σ hf hH (lv_sub hl [0, 1] rfl)
/-! IslandHeapModel.count(I)I -/
abbrev rm_X2_count : Room := { frames := 1, cells := 0, slots := 0, locals := 23 }
set_option maxHeartbeats 4000000 in
theorem m_X2_count (l : Launch) (G : mm_G) (h0 : Nat) (x1 : Int32) (σ : mm_M) (rr : Int32) (hf : f_X2_count h0 x1 σ = some rr) : Met l yX2_count (ws_ yX2_count cX2_count 2 ((Option.some .int))) rm_X2_count (mm_Pc G [.ref h0, .int x1] σ) (mm_Qi G rr σ) 0 0 (mm_A G) := by
  refine mm_met (by decide) rfl rfl (by  exact Nat.le_of_ble_eq_true rfl) (fun p e s m below meth c ls F hH hr hlocks hname hl => ?_)
  have hl : lv_has ls 2 [(0, .ref h0), (1, .int x1)] := by  exact hl
  have F : mm_F p s m _ c RX2 cX2_count 2 G := F
  have hx := F.1
  have hb := F.2.1
  have hml := F.2.2.1
  have hown := F.2.2.2.1
  have hts := F.2.2.2.2.1
  unfold f_X2_count at hf
  refine lv_iload_n hx hb dX2_count_0 rfl (lv_at hl 1 rfl) ?_
  by_cases c1 : x1 = (0 : Int32)
  · rw [if_pos c1] at hf
    refine lv_tableIn (off := 47) (tgt := 48) hx hb dX2_count_1 (by rw [c1]; decide) (by rw [c1]; decide) (by rw [c1]; rfl) (by decide) ?_
    refine lv_aload_n hx hb dX2_count_48 rfl (lv_at hl 0 rfl) ?_
    replace hf := b1_i hf
    obtain ⟨q9, e1, hf⟩ := hf
    refine mm_getA F hH mc_2 (k := 0) (by decide) (hts _ q1047) (fun _ h => h) e1 dX2_count_49 ?_
    refine lv_sipush (v := 1216) hx hb dX2_count_52 (by decide) ?_
    replace hf := b1_i hf
    obtain ⟨v10, e2, hf⟩ := hf
    refine mm_iald F hH e2 dX2_count_55 ?_
    have h1 := Option.some.inj hf
    subst h1
    exact mm_reti F hH hr hlocks rfl rfl dX2_count_56
  · rw [if_neg c1] at hf
    by_cases c2 : x1 = (1 : Int32)
    · rw [if_pos c2] at hf
      refine lv_tableIn (off := 56) (tgt := 57) hx hb dX2_count_1 (by rw [c2]; decide) (by rw [c2]; decide) (by rw [c2]; rfl) (by decide) ?_
      refine lv_aload_n hx hb dX2_count_57 rfl (lv_at hl 0 rfl) ?_
      replace hf := b1_i hf
      obtain ⟨q11, e3, hf⟩ := hf
      refine mm_getA F hH mc_2 (k := 0) (by decide) (hts _ q1047) (fun _ h => h) e3 dX2_count_58 ?_
      refine lv_sipush (v := 1217) hx hb dX2_count_61 (by decide) ?_
      replace hf := b1_i hf
      obtain ⟨v12, e4, hf⟩ := hf
      refine mm_iald F hH e4 dX2_count_64 ?_
      have h1 := Option.some.inj hf
      subst h1
      exact mm_reti F hH hr hlocks rfl rfl dX2_count_65
    · rw [if_neg c2] at hf
      by_cases c3 : x1 = (2 : Int32)
      · rw [if_pos c3] at hf
        refine lv_tableIn (off := 65) (tgt := 66) hx hb dX2_count_1 (by rw [c3]; decide) (by rw [c3]; decide) (by rw [c3]; rfl) (by decide) ?_
        refine lv_aload_n hx hb dX2_count_66 rfl (lv_at hl 0 rfl) ?_
        refine lv_iconst (v := 0) hx hb dX2_count_67 (by decide) ?_
        replace hf := b1_i hf
        obtain ⟨u, e5, hf⟩ := hf
        obtain ⟨fs, ek⟩ := ck_i e5
        replace hf := b1_i hf
        obtain ⟨v13, e6, hf⟩ := hf
        refine mm_ci (va_runV (As := [.int (0 : Int32)]) (rest := []) ⟨hx, hb, hml, hown, hts⟩ (m_X2_many l G h0 (0 : Int32) σ v13 e6) (cwV 1 hts (lw_V q1179 q1181 qs41 q67 q1182) rfl rfl rfl (by decide +kernel) ⟨Nat.le_of_ble_eq_true rfl, Nat.le_of_ble_eq_true rfl⟩) (mm_preV F.2.2.2.2.2 hH (ci := 2) rfl ek) rfl rfl hl.1 rfl (lv_room (Nat.le_of_ble_eq_true rfl)) dX2_count_68 ⟨Nat.le_of_ble_eq_true rfl, Nat.le_of_ble_eq_true rfl⟩) hH (fun H locs hH => ?_)
        have h1 := Option.some.inj hf
        subst h1
        exact mm_reti F hH hr hlocks rfl rfl dX2_count_71
      · rw [if_neg c3] at hf
        by_cases c4 : x1 = (3 : Int32)
        · rw [if_pos c4] at hf
          refine lv_tableIn (off := 71) (tgt := 72) hx hb dX2_count_1 (by rw [c4]; decide) (by rw [c4]; decide) (by rw [c4]; rfl) (by decide) ?_
          refine lv_aload_n hx hb dX2_count_72 rfl (lv_at hl 0 rfl) ?_
          refine lv_iconst (v := 1) hx hb dX2_count_73 (by decide) ?_
          replace hf := b1_i hf
          obtain ⟨u, e7, hf⟩ := hf
          obtain ⟨fs, ek⟩ := ck_i e7
          replace hf := b1_i hf
          obtain ⟨v14, e8, hf⟩ := hf
          refine mm_ci (va_runV (As := [.int (1 : Int32)]) (rest := []) ⟨hx, hb, hml, hown, hts⟩ (m_X2_many l G h0 (1 : Int32) σ v14 e8) (cwV 1 hts (lw_V q1179 q1181 qs41 q67 q1182) rfl rfl rfl (by decide +kernel) ⟨Nat.le_of_ble_eq_true rfl, Nat.le_of_ble_eq_true rfl⟩) (mm_preV F.2.2.2.2.2 hH (ci := 2) rfl ek) rfl rfl hl.1 rfl (lv_room (Nat.le_of_ble_eq_true rfl)) dX2_count_74 ⟨Nat.le_of_ble_eq_true rfl, Nat.le_of_ble_eq_true rfl⟩) hH (fun H locs hH => ?_)
          have h1 := Option.some.inj hf
          subst h1
          exact mm_reti F hH hr hlocks rfl rfl dX2_count_77
        · rw [if_neg c4] at hf
          by_cases c5 : x1 = (4 : Int32)
          · rw [if_pos c5] at hf
            refine lv_tableIn (off := 77) (tgt := 78) hx hb dX2_count_1 (by rw [c5]; decide) (by rw [c5]; decide) (by rw [c5]; rfl) (by decide) ?_
            refine lv_aload_n hx hb dX2_count_78 rfl (lv_at hl 0 rfl) ?_
            replace hf := b1_i hf
            obtain ⟨q15, e9, hf⟩ := hf
            refine mm_getA F hH mc_2 (k := 0) (by decide) (hts _ q1047) (fun _ h => h) e9 dX2_count_79 ?_
            refine lv_sipush (v := 1218) hx hb dX2_count_82 (by decide) ?_
            replace hf := b1_i hf
            obtain ⟨v16, e10, hf⟩ := hf
            refine mm_iald F hH e10 dX2_count_85 ?_
            have h1 := Option.some.inj hf
            subst h1
            exact mm_reti F hH hr hlocks rfl rfl dX2_count_86
          · rw [if_neg c5] at hf
            by_cases c6 : x1 = (5 : Int32)
            · rw [if_pos c6] at hf
              refine lv_tableIn (off := 86) (tgt := 87) hx hb dX2_count_1 (by rw [c6]; decide) (by rw [c6]; decide) (by rw [c6]; rfl) (by decide) ?_
              refine lv_aload_n hx hb dX2_count_87 rfl (lv_at hl 0 rfl) ?_
              replace hf := b1_i hf
              obtain ⟨q17, e11, hf⟩ := hf
              refine mm_getA F hH mc_2 (k := 0) (by decide) (hts _ q1047) (fun _ h => h) e11 dX2_count_88 ?_
              refine lv_sipush (v := 1219) hx hb dX2_count_91 (by decide) ?_
              replace hf := b1_i hf
              obtain ⟨v18, e12, hf⟩ := hf
              refine mm_iald F hH e12 dX2_count_94 ?_
              have h1 := Option.some.inj hf
              subst h1
              exact mm_reti F hH hr hlocks rfl rfl dX2_count_95
            · rw [if_neg c6] at hf
              by_cases c7 : x1 = (6 : Int32)
              · rw [if_pos c7] at hf
                refine lv_tableIn (off := 95) (tgt := 96) hx hb dX2_count_1 (by rw [c7]; decide) (by rw [c7]; decide) (by rw [c7]; rfl) (by decide) ?_
                refine lv_aload_n hx hb dX2_count_96 rfl (lv_at hl 0 rfl) ?_
                replace hf := b1_i hf
                obtain ⟨q19, e13, hf⟩ := hf
                refine mm_getA F hH mc_2 (k := 0) (by decide) (hts _ q1047) (fun _ h => h) e13 dX2_count_97 ?_
                refine lv_sipush (v := 1220) hx hb dX2_count_100 (by decide) ?_
                replace hf := b1_i hf
                obtain ⟨v20, e14, hf⟩ := hf
                refine mm_iald F hH e14 dX2_count_103 ?_
                have h1 := Option.some.inj hf
                subst h1
                exact mm_reti F hH hr hlocks rfl rfl dX2_count_104
              · rw [if_neg c7] at hf
                by_cases c8 : x1 = (7 : Int32)
                · rw [if_pos c8] at hf
                  refine lv_tableIn (off := 104) (tgt := 105) hx hb dX2_count_1 (by rw [c8]; decide) (by rw [c8]; decide) (by rw [c8]; rfl) (by decide) ?_
                  refine lv_aload_n hx hb dX2_count_105 rfl (lv_at hl 0 rfl) ?_
                  replace hf := b1_i hf
                  obtain ⟨v21, e15, hf⟩ := hf
                  refine mm_getI F hH mc_2 (k := 5) (by decide) (hts _ q1052) (fun _ h => h) e15 dX2_count_106 ?_
                  have h1 := Option.some.inj hf
                  subst h1
                  exact mm_reti F hH hr hlocks rfl rfl dX2_count_109
                · rw [if_neg c8] at hf
                  refine lv_tableOut (tgt := 110) hx hb dX2_count_1 (by have h0 := lv_neT c1 (a := 0) rfl; have h1 := lv_neT c2 (a := 1) rfl; have h2 := lv_neT c3 (a := 2) rfl; have h3 := lv_neT c4 (a := 3) rfl; have h4 := lv_neT c5 (a := 4) rfl; have h5 := lv_neT c6 (a := 5) rfl; have h6 := lv_neT c7 (a := 6) rfl; have h7 := lv_neT c8 (a := 7) rfl; omega) (by decide) ?_
                  refine lv_ldc (v := (-1000002)) hx hb hown (hts _ q1110) dX2_count_110 ?_
                  have h1 := Option.some.inj hf
                  subst h1
                  exact mm_reti F hH hr hlocks rfl rfl dX2_count_112
/-! IslandHeapModel.mixes(I)V -/
abbrev rm_X2_mixes : Room := { frames := 0, cells := 0, slots := 0, locals := 0 }
set_option maxHeartbeats 4000000 in
theorem m_X2_mixes (l : Launch) (G : mm_G) (h0 : Nat) (x1 : Int32) (σ : mm_M) (σf : mm_M) (hf : f_X2_mixes h0 x1 σ = some σf) : Met l yX2_mixes (ws_ yX2_mixes cX2_mixes 2 ((Option.none : Option Jvm.ClassFile.FieldType))) rm_X2_mixes (mm_Pc G [.ref h0, .int x1] σ) (mm_Qv G σf) 0 0 (mm_A G) := by
  refine mm_met (by decide) rfl rfl (by  exact Nat.le_of_ble_eq_true rfl) (fun p e s m below meth c ls F hH hr hlocks hname hl => ?_)
  have hl : lv_has ls 2 [(0, .ref h0), (1, .int x1)] := by  exact hl
  have F : mm_F p s m _ c RX2 cX2_mixes 2 G := F
  have hx := F.1
  have hb := F.2.1
  have hml := F.2.2.1
  have hown := F.2.2.2.1
  have hts := F.2.2.2.2.1
  unfold f_X2_mixes at hf
  refine lv_aload_n hx hb dX2_mixes_0 rfl (lv_at hl 0 rfl) ?_
  refine lv_ldc2 (v := (31)) hx hb hown (hts _ q1348) dX2_mixes_1 ?_
  refine lv_aload_n hx hb dX2_mixes_4 rfl (lv_at hl 0 rfl) ?_
  replace hf := b1_i hf
  obtain ⟨w1, e1, hf⟩ := hf
  refine mm_getL F hH mc_2 (k := 17) (by decide) (hts _ q1064) (fun _ h => h) e1 dX2_mixes_5 ?_
  refine lv_lmul hx hb dX2_mixes_8 ?_
  refine lv_iload_n hx hb dX2_mixes_9 rfl (lv_at hl 1 rfl) ?_
  refine lv_i2l hx hb dX2_mixes_10 rfl ?_
  refine lv_ladd hx hb dX2_mixes_11 ?_
  replace hf := b1_i hf
  obtain ⟨σ2, e2, hf⟩ := hf
  refine mm_put F hH mc_2 (k := 17) (v := vL (((31 : Int64) * w1) + x1.toInt64)) (by decide) (hts _ q1064) (fun _ h => h) rfl rfl rfl e2 dX2_mixes_12 (fun H locs hH => ?_)
  have h1 := Option.some.inj hf
  subst h1
  exact mm_retv F hH hr hlocks dX2_mixes_15
/-! IslandHeapModel.digest()J -/
abbrev rm_X2_digest : Room := { frames := 5, cells := 0, slots := 0, locals := 116 }
set_option maxHeartbeats 4000000 in
theorem w_X2_digest_9 {p : Program} {l : Launch} {e : Env} {s : State} {m : MethodId} {av : Array Value} {below : List Frame} {meth : Method} {c : Code} {G : mm_G} {σf : mm_M} {rr : Int64} {n : Nat} {h0 : Nat} (F : mm_F p s m av c RX2 cX2_digest 3 G) (hr : meth.sig.returnType = (Option.some .long)) (hlocks : meth.locks = false) (hname : meth.name = yX2_digest.name) (IH9 : ∀ (x1 : Int32) (σ : mm_M) (H : Heap) (locs : List Loc) (ls : Array Slot), mm_H G s σ H locs → lv_has ls 3 [(0, .ref h0), (1, .int x1)] → itn (s_X2_digest h0) n (.inl (x1, σ)) = some (rr, σf) → W p l e rm_X2_digest s m av below meth c H locs 0 0 (MQ below (mm_Ql G rr σf) av s 0 0 (mm_A G)) (F0 m 9 ls [])) (IH32 : ∀ (x1 : Int32) (σ : mm_M) (H : Heap) (locs : List Loc) (ls : Array Slot), mm_H G s σ H locs → lv_has ls 3 [(0, .ref h0), (1, .int x1)] → itn (s_X2_digest h0) n (.inr (.inl (x1, σ))) = some (rr, σf) → W p l e rm_X2_digest s m av below meth c H locs 0 0 (MQ below (mm_Ql G rr σf) av s 0 0 (mm_A G)) (F0 m 32 ls [])) (IH64 : ∀ (x1 : Int32) (σ : mm_M) (H : Heap) (locs : List Loc) (ls : Array Slot), mm_H G s σ H locs → lv_has ls 3 [(0, .ref h0), (1, .int x1)] → itn (s_X2_digest h0) n (.inr (.inr (.inl (x1, σ)))) = some (rr, σf) → W p l e rm_X2_digest s m av below meth c H locs 0 0 (MQ below (mm_Ql G rr σf) av s 0 0 (mm_A G)) (F0 m 64 ls [])) (IH71 : ∀ (x1 : Int32) (x2 : Int32) (σ : mm_M) (H : Heap) (locs : List Loc) (ls : Array Slot), mm_H G s σ H locs → lv_has ls 3 [(0, .ref h0), (1, .int x1), (2, .int x2)] → itn (s_X2_digest h0) n (.inr (.inr (.inr (.inl (x1, x2, σ))))) = some (rr, σf) → W p l e rm_X2_digest s m av below meth c H locs 0 0 (MQ below (mm_Ql G rr σf) av s 0 0 (mm_A G)) (F0 m 71 ls [])) (IH95 : ∀ (x1 : Int32) (x2 : Int32) (σ : mm_M) (H : Heap) (locs : List Loc) (ls : Array Slot), mm_H G s σ H locs → lv_has ls 3 [(0, .ref h0), (1, .int x1), (2, .int x2)] → itn (s_X2_digest h0) n (.inr (.inr (.inr (.inr (.inl (x1, x2, σ)))))) = some (rr, σf) → W p l e rm_X2_digest s m av below meth c H locs 0 0 (MQ below (mm_Ql G rr σf) av s 0 0 (mm_A G)) (F0 m 95 ls [])) (IH142 : ∀ (x1 : Int32) (σ : mm_M) (H : Heap) (locs : List Loc) (ls : Array Slot), mm_H G s σ H locs → lv_has ls 3 [(0, .ref h0), (1, .int x1)] → itn (s_X2_digest h0) n (.inr (.inr (.inr (.inr (.inr (.inl (x1, σ))))))) = some (rr, σf) → W p l e rm_X2_digest s m av below meth c H locs 0 0 (MQ below (mm_Ql G rr σf) av s 0 0 (mm_A G)) (F0 m 142 ls [])) (IH164 : ∀ (x1 : Int32) (σ : mm_M) (H : Heap) (locs : List Loc) (ls : Array Slot), mm_H G s σ H locs → lv_has ls 3 [(0, .ref h0), (1, .int x1)] → itn (s_X2_digest h0) n (.inr (.inr (.inr (.inr (.inr (.inr (.inl (x1, σ)))))))) = some (rr, σf) → W p l e rm_X2_digest s m av below meth c H locs 0 0 (MQ below (mm_Ql G rr σf) av s 0 0 (mm_A G)) (F0 m 164 ls [])) (IH204 : ∀ (x1 : Int32) (σ : mm_M) (H : Heap) (locs : List Loc) (ls : Array Slot), mm_H G s σ H locs → lv_has ls 3 [(0, .ref h0), (1, .int x1)] → itn (s_X2_digest h0) n (.inr (.inr (.inr (.inr (.inr (.inr (.inr (x1, σ)))))))) = some (rr, σf) → W p l e rm_X2_digest s m av below meth c H locs 0 0 (MQ below (mm_Ql G rr σf) av s 0 0 (mm_A G)) (F0 m 204 ls []))  (x1 : Int32)  (σ : mm_M) (hf : evn (s_X2_digest h0) n (g_X2_digest_9 h0 x1 σ) = some (rr, σf)) {H : Heap} {locs : List Loc} {ls : Array Slot} (hH : mm_H G s σ H locs) (hl : lv_has ls 3 [(0, .ref h0), (1, .int x1)]) : W p l e rm_X2_digest s m av below meth c H locs 0 0 (MQ below (mm_Ql G rr σf) av s 0 0 (mm_A G)) (F0 m 9 ls []) := by
  have hx := F.1
  have hb := F.2.1
  have hml := F.2.2.1
  have hown := F.2.2.2.1
  have hts := F.2.2.2.2.1
  unfold g_X2_digest_9 at hf
  refine lv_iload_n hx hb dX2_digest_9 rfl (lv_at hl 1 rfl) ?_
  refine lv_bipush (v := 8) hx hb dX2_digest_10 (by decide) ?_
  refine lv_icmp_ge (tgt := 30) hx hb dX2_digest_12 (by decide) (fun c1 => ?_) (fun c1 => ?_)
  · rw [if_pos c1] at hf
    refine lv_iconst (v := 0) hx hb dX2_digest_30 (by decide) ?_
    refine lv_istore_n (lv' := [(1, .int (0 : Int32)), (0, .ref h0)]) hx hb dX2_digest_31 rfl hl (by decide) rfl (fun ls hl => ?_)
    rw [evn_l] at hf
    exact IH32 (0 : Int32) σ _ _ _ hH (lv_sub hl [1, 0] rfl) hf
  · rw [if_neg c1] at hf
    refine lv_aload_n hx hb dX2_digest_15 rfl (lv_at hl 0 rfl) ?_
    refine lv_aload_n hx hb dX2_digest_16 rfl (lv_at hl 0 rfl) ?_
    refine lv_iload_n hx hb dX2_digest_17 rfl (lv_at hl 1 rfl) ?_
    replace hf := evn_b1 hf
    obtain ⟨u, e1, hf⟩ := hf
    obtain ⟨fs, ek⟩ := ck_i e1
    replace hf := evn_b1 hf
    obtain ⟨v2, e2, hf⟩ := hf
    refine mm_ci (va_runV (As := [.int x1]) (rest := [.ref h0]) ⟨hx, hb, hml, hown, hts⟩ (m_X2_count l G h0 x1 σ v2 e2) (cwV 1 hts (lw_V q1343 q1335 q1336 q67 q1337) rfl rfl rfl (by decide +kernel) ⟨Nat.le_of_ble_eq_true rfl, Nat.le_of_ble_eq_true rfl⟩) (mm_preV F.2.2.2.2.2 hH (ci := 2) rfl ek) rfl rfl hl.1 rfl (lv_room (Nat.le_of_ble_eq_true rfl)) dX2_digest_18 ⟨Nat.le_of_ble_eq_true rfl, Nat.le_of_ble_eq_true rfl⟩) hH (fun H locs hH => ?_)
    replace hf := evn_b1 hf
    obtain ⟨u, e3, hf⟩ := hf
    obtain ⟨fs, ek⟩ := ck_i e3
    replace hf := evn_b1 hf
    obtain ⟨σ3, e4, hf⟩ := hf
    refine mm_cv (va_runV (As := [.int v2]) (rest := []) ⟨hx, hb, hml, hown, hts⟩ (m_X2_mixes l G h0 v2 σ σ3 e4) (cwV 1 hts (lw_V q1344 q1346 qs60 q67 q1347) rfl rfl rfl (by decide +kernel) ⟨Nat.le_of_ble_eq_true rfl, Nat.le_of_ble_eq_true rfl⟩) (mm_preV F.2.2.2.2.2 hH (ci := 2) rfl ek) rfl rfl hl.1 rfl (lv_room (Nat.le_of_ble_eq_true rfl)) dX2_digest_21 ⟨Nat.le_of_ble_eq_true rfl, Nat.le_of_ble_eq_true rfl⟩) hH (fun H locs hH => ?_)
    refine lv_iinc (v := x1 + (1 : Int32)) (lv' := [(1, .int (x1 + (1 : Int32))), (0, .ref h0)]) hx hb dX2_digest_24 hl (k := 1) rfl rfl (by decide) rfl (fun ls hl => ?_)
    refine lv_goto (tgt := 9) hx hb dX2_digest_27 (by decide) ?_
    rw [evn_l] at hf
    exact IH9 (x1 + (1 : Int32)) σ3 _ _ _ hH (lv_sub hl [1, 0] rfl) hf
set_option maxHeartbeats 4000000 in
theorem w_X2_digest_32 {p : Program} {l : Launch} {e : Env} {s : State} {m : MethodId} {av : Array Value} {below : List Frame} {meth : Method} {c : Code} {G : mm_G} {σf : mm_M} {rr : Int64} {n : Nat} {h0 : Nat} (F : mm_F p s m av c RX2 cX2_digest 3 G) (hr : meth.sig.returnType = (Option.some .long)) (hlocks : meth.locks = false) (hname : meth.name = yX2_digest.name) (IH9 : ∀ (x1 : Int32) (σ : mm_M) (H : Heap) (locs : List Loc) (ls : Array Slot), mm_H G s σ H locs → lv_has ls 3 [(0, .ref h0), (1, .int x1)] → itn (s_X2_digest h0) n (.inl (x1, σ)) = some (rr, σf) → W p l e rm_X2_digest s m av below meth c H locs 0 0 (MQ below (mm_Ql G rr σf) av s 0 0 (mm_A G)) (F0 m 9 ls [])) (IH32 : ∀ (x1 : Int32) (σ : mm_M) (H : Heap) (locs : List Loc) (ls : Array Slot), mm_H G s σ H locs → lv_has ls 3 [(0, .ref h0), (1, .int x1)] → itn (s_X2_digest h0) n (.inr (.inl (x1, σ))) = some (rr, σf) → W p l e rm_X2_digest s m av below meth c H locs 0 0 (MQ below (mm_Ql G rr σf) av s 0 0 (mm_A G)) (F0 m 32 ls [])) (IH64 : ∀ (x1 : Int32) (σ : mm_M) (H : Heap) (locs : List Loc) (ls : Array Slot), mm_H G s σ H locs → lv_has ls 3 [(0, .ref h0), (1, .int x1)] → itn (s_X2_digest h0) n (.inr (.inr (.inl (x1, σ)))) = some (rr, σf) → W p l e rm_X2_digest s m av below meth c H locs 0 0 (MQ below (mm_Ql G rr σf) av s 0 0 (mm_A G)) (F0 m 64 ls [])) (IH71 : ∀ (x1 : Int32) (x2 : Int32) (σ : mm_M) (H : Heap) (locs : List Loc) (ls : Array Slot), mm_H G s σ H locs → lv_has ls 3 [(0, .ref h0), (1, .int x1), (2, .int x2)] → itn (s_X2_digest h0) n (.inr (.inr (.inr (.inl (x1, x2, σ))))) = some (rr, σf) → W p l e rm_X2_digest s m av below meth c H locs 0 0 (MQ below (mm_Ql G rr σf) av s 0 0 (mm_A G)) (F0 m 71 ls [])) (IH95 : ∀ (x1 : Int32) (x2 : Int32) (σ : mm_M) (H : Heap) (locs : List Loc) (ls : Array Slot), mm_H G s σ H locs → lv_has ls 3 [(0, .ref h0), (1, .int x1), (2, .int x2)] → itn (s_X2_digest h0) n (.inr (.inr (.inr (.inr (.inl (x1, x2, σ)))))) = some (rr, σf) → W p l e rm_X2_digest s m av below meth c H locs 0 0 (MQ below (mm_Ql G rr σf) av s 0 0 (mm_A G)) (F0 m 95 ls [])) (IH142 : ∀ (x1 : Int32) (σ : mm_M) (H : Heap) (locs : List Loc) (ls : Array Slot), mm_H G s σ H locs → lv_has ls 3 [(0, .ref h0), (1, .int x1)] → itn (s_X2_digest h0) n (.inr (.inr (.inr (.inr (.inr (.inl (x1, σ))))))) = some (rr, σf) → W p l e rm_X2_digest s m av below meth c H locs 0 0 (MQ below (mm_Ql G rr σf) av s 0 0 (mm_A G)) (F0 m 142 ls [])) (IH164 : ∀ (x1 : Int32) (σ : mm_M) (H : Heap) (locs : List Loc) (ls : Array Slot), mm_H G s σ H locs → lv_has ls 3 [(0, .ref h0), (1, .int x1)] → itn (s_X2_digest h0) n (.inr (.inr (.inr (.inr (.inr (.inr (.inl (x1, σ)))))))) = some (rr, σf) → W p l e rm_X2_digest s m av below meth c H locs 0 0 (MQ below (mm_Ql G rr σf) av s 0 0 (mm_A G)) (F0 m 164 ls [])) (IH204 : ∀ (x1 : Int32) (σ : mm_M) (H : Heap) (locs : List Loc) (ls : Array Slot), mm_H G s σ H locs → lv_has ls 3 [(0, .ref h0), (1, .int x1)] → itn (s_X2_digest h0) n (.inr (.inr (.inr (.inr (.inr (.inr (.inr (x1, σ)))))))) = some (rr, σf) → W p l e rm_X2_digest s m av below meth c H locs 0 0 (MQ below (mm_Ql G rr σf) av s 0 0 (mm_A G)) (F0 m 204 ls []))  (x1 : Int32)  (σ : mm_M) (hf : evn (s_X2_digest h0) n (g_X2_digest_32 h0 x1 σ) = some (rr, σf)) {H : Heap} {locs : List Loc} {ls : Array Slot} (hH : mm_H G s σ H locs) (hl : lv_has ls 3 [(0, .ref h0), (1, .int x1)]) : W p l e rm_X2_digest s m av below meth c H locs 0 0 (MQ below (mm_Ql G rr σf) av s 0 0 (mm_A G)) (F0 m 32 ls []) := by
  have hx := F.1
  have hb := F.2.1
  have hml := F.2.2.1
  have hown := F.2.2.2.1
  have hts := F.2.2.2.2.1
  unfold g_X2_digest_32 at hf
  refine lv_iload_n hx hb dX2_digest_32 rfl (lv_at hl 1 rfl) ?_
  refine lv_bipush (v := 10) hx hb dX2_digest_33 (by decide) ?_
  refine lv_icmp_ge (tgt := 58) hx hb dX2_digest_35 (by decide) (fun c1 => ?_) (fun c1 => ?_)
  · rw [if_pos c1] at hf
    refine lv_aload_n hx hb dX2_digest_58 rfl (lv_at hl 0 rfl) ?_
    refine lv_iconst (v := 0) hx hb dX2_digest_59 (by decide) ?_
    replace hf := evn_b1 hf
    obtain ⟨u, e1, hf⟩ := hf
    obtain ⟨fs, ek⟩ := ck_i e1
    replace hf := evn_b1 hf
    obtain ⟨v2, e2, hf⟩ := hf
    refine mm_ci (va_runV (As := [.int (0 : Int32)]) (rest := []) ⟨hx, hb, hml, hown, hts⟩ (m_X2_objectFrom l G h0 (0 : Int32) σ v2 e2) (cwV 1 hts (lw_V q1148 q1150 qs39 q67 q1151) rfl rfl rfl (by decide +kernel) ⟨Nat.le_of_ble_eq_true rfl, Nat.le_of_ble_eq_true rfl⟩) (mm_preV F.2.2.2.2.2 hH (ci := 2) rfl ek) rfl rfl hl.1 rfl (lv_room (Nat.le_of_ble_eq_true rfl)) dX2_digest_60 ⟨Nat.le_of_ble_eq_true rfl, Nat.le_of_ble_eq_true rfl⟩) hH (fun H locs hH => ?_)
    refine lv_istore_n (lv' := [(1, .int v2), (0, .ref h0)]) hx hb dX2_digest_63 rfl hl (by decide) rfl (fun ls hl => ?_)
    rw [evn_l] at hf
    exact IH64 v2 σ _ _ _ hH (lv_sub hl [1, 0] rfl) hf
  · rw [if_neg c1] at hf
    refine lv_aload_n hx hb dX2_digest_38 rfl (lv_at hl 0 rfl) ?_
    refine lv_aload_n hx hb dX2_digest_39 rfl (lv_at hl 0 rfl) ?_
    replace hf := evn_b1 hf
    obtain ⟨q3, e3, hf⟩ := hf
    refine mm_getA F hH mc_2 (k := 0) (by decide) (hts _ q1047) (fun _ h => h) e3 dX2_digest_40 ?_
    refine lv_sipush (v := 1200) hx hb dX2_digest_43 (by decide) ?_
    refine lv_iload_n hx hb dX2_digest_46 rfl (lv_at hl 1 rfl) ?_
    refine lv_iadd hx hb dX2_digest_47 ?_
    replace hf := evn_b1 hf
    obtain ⟨v4, e4, hf⟩ := hf
    refine mm_iald F hH e4 dX2_digest_48 ?_
    replace hf := evn_b1 hf
    obtain ⟨u, e5, hf⟩ := hf
    obtain ⟨fs, ek⟩ := ck_i e5
    replace hf := evn_b1 hf
    obtain ⟨σ5, e6, hf⟩ := hf
    refine mm_cv (va_runV (As := [.int v4]) (rest := []) ⟨hx, hb, hml, hown, hts⟩ (m_X2_mixes l G h0 v4 σ σ5 e6) (cwV 1 hts (lw_V q1344 q1346 qs60 q67 q1347) rfl rfl rfl (by decide +kernel) ⟨Nat.le_of_ble_eq_true rfl, Nat.le_of_ble_eq_true rfl⟩) (mm_preV F.2.2.2.2.2 hH (ci := 2) rfl ek) rfl rfl hl.1 rfl (lv_room (Nat.le_of_ble_eq_true rfl)) dX2_digest_49 ⟨Nat.le_of_ble_eq_true rfl, Nat.le_of_ble_eq_true rfl⟩) hH (fun H locs hH => ?_)
    refine lv_iinc (v := x1 + (1 : Int32)) (lv' := [(1, .int (x1 + (1 : Int32))), (0, .ref h0)]) hx hb dX2_digest_52 hl (k := 1) rfl rfl (by decide) rfl (fun ls hl => ?_)
    refine lv_goto (tgt := 32) hx hb dX2_digest_55 (by decide) ?_
    rw [evn_l] at hf
    exact IH32 (x1 + (1 : Int32)) σ5 _ _ _ hH (lv_sub hl [1, 0] rfl) hf
set_option maxHeartbeats 4000000 in
theorem w_X2_digest_64 {p : Program} {l : Launch} {e : Env} {s : State} {m : MethodId} {av : Array Value} {below : List Frame} {meth : Method} {c : Code} {G : mm_G} {σf : mm_M} {rr : Int64} {n : Nat} {h0 : Nat} (F : mm_F p s m av c RX2 cX2_digest 3 G) (hr : meth.sig.returnType = (Option.some .long)) (hlocks : meth.locks = false) (hname : meth.name = yX2_digest.name) (IH9 : ∀ (x1 : Int32) (σ : mm_M) (H : Heap) (locs : List Loc) (ls : Array Slot), mm_H G s σ H locs → lv_has ls 3 [(0, .ref h0), (1, .int x1)] → itn (s_X2_digest h0) n (.inl (x1, σ)) = some (rr, σf) → W p l e rm_X2_digest s m av below meth c H locs 0 0 (MQ below (mm_Ql G rr σf) av s 0 0 (mm_A G)) (F0 m 9 ls [])) (IH32 : ∀ (x1 : Int32) (σ : mm_M) (H : Heap) (locs : List Loc) (ls : Array Slot), mm_H G s σ H locs → lv_has ls 3 [(0, .ref h0), (1, .int x1)] → itn (s_X2_digest h0) n (.inr (.inl (x1, σ))) = some (rr, σf) → W p l e rm_X2_digest s m av below meth c H locs 0 0 (MQ below (mm_Ql G rr σf) av s 0 0 (mm_A G)) (F0 m 32 ls [])) (IH64 : ∀ (x1 : Int32) (σ : mm_M) (H : Heap) (locs : List Loc) (ls : Array Slot), mm_H G s σ H locs → lv_has ls 3 [(0, .ref h0), (1, .int x1)] → itn (s_X2_digest h0) n (.inr (.inr (.inl (x1, σ)))) = some (rr, σf) → W p l e rm_X2_digest s m av below meth c H locs 0 0 (MQ below (mm_Ql G rr σf) av s 0 0 (mm_A G)) (F0 m 64 ls [])) (IH71 : ∀ (x1 : Int32) (x2 : Int32) (σ : mm_M) (H : Heap) (locs : List Loc) (ls : Array Slot), mm_H G s σ H locs → lv_has ls 3 [(0, .ref h0), (1, .int x1), (2, .int x2)] → itn (s_X2_digest h0) n (.inr (.inr (.inr (.inl (x1, x2, σ))))) = some (rr, σf) → W p l e rm_X2_digest s m av below meth c H locs 0 0 (MQ below (mm_Ql G rr σf) av s 0 0 (mm_A G)) (F0 m 71 ls [])) (IH95 : ∀ (x1 : Int32) (x2 : Int32) (σ : mm_M) (H : Heap) (locs : List Loc) (ls : Array Slot), mm_H G s σ H locs → lv_has ls 3 [(0, .ref h0), (1, .int x1), (2, .int x2)] → itn (s_X2_digest h0) n (.inr (.inr (.inr (.inr (.inl (x1, x2, σ)))))) = some (rr, σf) → W p l e rm_X2_digest s m av below meth c H locs 0 0 (MQ below (mm_Ql G rr σf) av s 0 0 (mm_A G)) (F0 m 95 ls [])) (IH142 : ∀ (x1 : Int32) (σ : mm_M) (H : Heap) (locs : List Loc) (ls : Array Slot), mm_H G s σ H locs → lv_has ls 3 [(0, .ref h0), (1, .int x1)] → itn (s_X2_digest h0) n (.inr (.inr (.inr (.inr (.inr (.inl (x1, σ))))))) = some (rr, σf) → W p l e rm_X2_digest s m av below meth c H locs 0 0 (MQ below (mm_Ql G rr σf) av s 0 0 (mm_A G)) (F0 m 142 ls [])) (IH164 : ∀ (x1 : Int32) (σ : mm_M) (H : Heap) (locs : List Loc) (ls : Array Slot), mm_H G s σ H locs → lv_has ls 3 [(0, .ref h0), (1, .int x1)] → itn (s_X2_digest h0) n (.inr (.inr (.inr (.inr (.inr (.inr (.inl (x1, σ)))))))) = some (rr, σf) → W p l e rm_X2_digest s m av below meth c H locs 0 0 (MQ below (mm_Ql G rr σf) av s 0 0 (mm_A G)) (F0 m 164 ls [])) (IH204 : ∀ (x1 : Int32) (σ : mm_M) (H : Heap) (locs : List Loc) (ls : Array Slot), mm_H G s σ H locs → lv_has ls 3 [(0, .ref h0), (1, .int x1)] → itn (s_X2_digest h0) n (.inr (.inr (.inr (.inr (.inr (.inr (.inr (x1, σ)))))))) = some (rr, σf) → W p l e rm_X2_digest s m av below meth c H locs 0 0 (MQ below (mm_Ql G rr σf) av s 0 0 (mm_A G)) (F0 m 204 ls []))  (x1 : Int32)  (σ : mm_M) (hf : evn (s_X2_digest h0) n (g_X2_digest_64 h0 x1 σ) = some (rr, σf)) {H : Heap} {locs : List Loc} {ls : Array Slot} (hH : mm_H G s σ H locs) (hl : lv_has ls 3 [(0, .ref h0), (1, .int x1)]) : W p l e rm_X2_digest s m av below meth c H locs 0 0 (MQ below (mm_Ql G rr σf) av s 0 0 (mm_A G)) (F0 m 64 ls []) := by
  have hx := F.1
  have hb := F.2.1
  have hml := F.2.2.1
  have hown := F.2.2.2.1
  have hts := F.2.2.2.2.1
  unfold g_X2_digest_64 at hf
  refine lv_iload_n hx hb dX2_digest_64 rfl (lv_at hl 1 rfl) ?_
  refine lv_iconst (v := (-1)) hx hb dX2_digest_65 (by decide) ?_
  refine lv_icmp_eq (tgt := 140) hx hb dX2_digest_66 (by decide) (fun c1 => ?_) (fun c1 => ?_)
  · rw [if_pos c1] at hf
    refine lv_iconst (v := 0) hx hb dX2_digest_140 (by decide) ?_
    refine lv_istore_n (lv' := [(1, .int (0 : Int32)), (0, .ref h0)]) hx hb dX2_digest_141 rfl hl (by decide) rfl (fun ls hl => ?_)
    rw [evn_l] at hf
    exact IH142 (0 : Int32) σ _ _ _ hH (lv_sub hl [1, 0] rfl) hf
  · rw [if_neg c1] at hf
    refine lv_iconst (v := 0) hx hb dX2_digest_69 (by decide) ?_
    refine lv_istore_n (lv' := [(2, .int (0 : Int32)), (0, .ref h0), (1, .int x1)]) hx hb dX2_digest_70 rfl hl (by decide) rfl (fun ls hl => ?_)
    rw [evn_l] at hf
    exact IH71 x1 (0 : Int32) σ _ _ _ hH (lv_sub hl [1, 2, 0] rfl) hf
set_option maxHeartbeats 4000000 in
theorem w_X2_digest_71 {p : Program} {l : Launch} {e : Env} {s : State} {m : MethodId} {av : Array Value} {below : List Frame} {meth : Method} {c : Code} {G : mm_G} {σf : mm_M} {rr : Int64} {n : Nat} {h0 : Nat} (F : mm_F p s m av c RX2 cX2_digest 3 G) (hr : meth.sig.returnType = (Option.some .long)) (hlocks : meth.locks = false) (hname : meth.name = yX2_digest.name) (IH9 : ∀ (x1 : Int32) (σ : mm_M) (H : Heap) (locs : List Loc) (ls : Array Slot), mm_H G s σ H locs → lv_has ls 3 [(0, .ref h0), (1, .int x1)] → itn (s_X2_digest h0) n (.inl (x1, σ)) = some (rr, σf) → W p l e rm_X2_digest s m av below meth c H locs 0 0 (MQ below (mm_Ql G rr σf) av s 0 0 (mm_A G)) (F0 m 9 ls [])) (IH32 : ∀ (x1 : Int32) (σ : mm_M) (H : Heap) (locs : List Loc) (ls : Array Slot), mm_H G s σ H locs → lv_has ls 3 [(0, .ref h0), (1, .int x1)] → itn (s_X2_digest h0) n (.inr (.inl (x1, σ))) = some (rr, σf) → W p l e rm_X2_digest s m av below meth c H locs 0 0 (MQ below (mm_Ql G rr σf) av s 0 0 (mm_A G)) (F0 m 32 ls [])) (IH64 : ∀ (x1 : Int32) (σ : mm_M) (H : Heap) (locs : List Loc) (ls : Array Slot), mm_H G s σ H locs → lv_has ls 3 [(0, .ref h0), (1, .int x1)] → itn (s_X2_digest h0) n (.inr (.inr (.inl (x1, σ)))) = some (rr, σf) → W p l e rm_X2_digest s m av below meth c H locs 0 0 (MQ below (mm_Ql G rr σf) av s 0 0 (mm_A G)) (F0 m 64 ls [])) (IH71 : ∀ (x1 : Int32) (x2 : Int32) (σ : mm_M) (H : Heap) (locs : List Loc) (ls : Array Slot), mm_H G s σ H locs → lv_has ls 3 [(0, .ref h0), (1, .int x1), (2, .int x2)] → itn (s_X2_digest h0) n (.inr (.inr (.inr (.inl (x1, x2, σ))))) = some (rr, σf) → W p l e rm_X2_digest s m av below meth c H locs 0 0 (MQ below (mm_Ql G rr σf) av s 0 0 (mm_A G)) (F0 m 71 ls [])) (IH95 : ∀ (x1 : Int32) (x2 : Int32) (σ : mm_M) (H : Heap) (locs : List Loc) (ls : Array Slot), mm_H G s σ H locs → lv_has ls 3 [(0, .ref h0), (1, .int x1), (2, .int x2)] → itn (s_X2_digest h0) n (.inr (.inr (.inr (.inr (.inl (x1, x2, σ)))))) = some (rr, σf) → W p l e rm_X2_digest s m av below meth c H locs 0 0 (MQ below (mm_Ql G rr σf) av s 0 0 (mm_A G)) (F0 m 95 ls [])) (IH142 : ∀ (x1 : Int32) (σ : mm_M) (H : Heap) (locs : List Loc) (ls : Array Slot), mm_H G s σ H locs → lv_has ls 3 [(0, .ref h0), (1, .int x1)] → itn (s_X2_digest h0) n (.inr (.inr (.inr (.inr (.inr (.inl (x1, σ))))))) = some (rr, σf) → W p l e rm_X2_digest s m av below meth c H locs 0 0 (MQ below (mm_Ql G rr σf) av s 0 0 (mm_A G)) (F0 m 142 ls [])) (IH164 : ∀ (x1 : Int32) (σ : mm_M) (H : Heap) (locs : List Loc) (ls : Array Slot), mm_H G s σ H locs → lv_has ls 3 [(0, .ref h0), (1, .int x1)] → itn (s_X2_digest h0) n (.inr (.inr (.inr (.inr (.inr (.inr (.inl (x1, σ)))))))) = some (rr, σf) → W p l e rm_X2_digest s m av below meth c H locs 0 0 (MQ below (mm_Ql G rr σf) av s 0 0 (mm_A G)) (F0 m 164 ls [])) (IH204 : ∀ (x1 : Int32) (σ : mm_M) (H : Heap) (locs : List Loc) (ls : Array Slot), mm_H G s σ H locs → lv_has ls 3 [(0, .ref h0), (1, .int x1)] → itn (s_X2_digest h0) n (.inr (.inr (.inr (.inr (.inr (.inr (.inr (x1, σ)))))))) = some (rr, σf) → W p l e rm_X2_digest s m av below meth c H locs 0 0 (MQ below (mm_Ql G rr σf) av s 0 0 (mm_A G)) (F0 m 204 ls []))  (x1 : Int32) (x2 : Int32)  (σ : mm_M) (hf : evn (s_X2_digest h0) n (g_X2_digest_71 h0 x1 x2 σ) = some (rr, σf)) {H : Heap} {locs : List Loc} {ls : Array Slot} (hH : mm_H G s σ H locs) (hl : lv_has ls 3 [(0, .ref h0), (1, .int x1), (2, .int x2)]) : W p l e rm_X2_digest s m av below meth c H locs 0 0 (MQ below (mm_Ql G rr σf) av s 0 0 (mm_A G)) (F0 m 71 ls []) := by
  have hx := F.1
  have hb := F.2.1
  have hml := F.2.2.1
  have hown := F.2.2.2.1
  have hts := F.2.2.2.2.1
  unfold g_X2_digest_71 at hf
  refine lv_iload_n hx hb dX2_digest_71 rfl (lv_at hl 2 rfl) ?_
  refine lv_bipush (v := 8) hx hb dX2_digest_72 (by decide) ?_
  refine lv_icmp_ge (tgt := 93) hx hb dX2_digest_74 (by decide) (fun c1 => ?_) (fun c1 => ?_)
  · rw [if_pos c1] at hf
    refine lv_iconst (v := 1) hx hb dX2_digest_93 (by decide) ?_
    refine lv_istore_n (lv' := [(2, .int (1 : Int32)), (0, .ref h0), (1, .int x1)]) hx hb dX2_digest_94 rfl hl (by decide) rfl (fun ls hl => ?_)
    rw [evn_l] at hf
    exact IH95 x1 (1 : Int32) σ _ _ _ hH (lv_sub hl [1, 2, 0] rfl) hf
  · rw [if_neg c1] at hf
    refine lv_aload_n hx hb dX2_digest_77 rfl (lv_at hl 0 rfl) ?_
    refine lv_aload_n hx hb dX2_digest_78 rfl (lv_at hl 0 rfl) ?_
    refine lv_iload_n hx hb dX2_digest_79 rfl (lv_at hl 1 rfl) ?_
    refine lv_iload_n hx hb dX2_digest_80 rfl (lv_at hl 2 rfl) ?_
    replace hf := evn_b1 hf
    obtain ⟨u, e1, hf⟩ := hf
    obtain ⟨fs, ek⟩ := ck_i e1
    replace hf := evn_b2 hf
    obtain ⟨v2, σ3, e2, hf⟩ := hf
    refine mm_ci (va_runV (As := [.int x1, .int x2]) (rest := [.ref h0]) ⟨hx, hb, hml, hown, hts⟩ (m_X2_object l G h0 x1 x2 σ σ3 v2 e2) (cwV 2 hts (lw_V q1349 q1121 q1122 q67 q1123) rfl rfl rfl (by decide +kernel) ⟨Nat.le_of_ble_eq_true rfl, Nat.le_of_ble_eq_true rfl⟩) (mm_preV F.2.2.2.2.2 hH (ci := 2) rfl ek) rfl rfl hl.1 rfl (lv_room (Nat.le_of_ble_eq_true rfl)) dX2_digest_81 ⟨Nat.le_of_ble_eq_true rfl, Nat.le_of_ble_eq_true rfl⟩) hH (fun H locs hH => ?_)
    replace hf := evn_b1 hf
    obtain ⟨u, e3, hf⟩ := hf
    obtain ⟨fs, ek⟩ := ck_i e3
    replace hf := evn_b1 hf
    obtain ⟨σ4, e4, hf⟩ := hf
    refine mm_cv (va_runV (As := [.int v2]) (rest := []) ⟨hx, hb, hml, hown, hts⟩ (m_X2_mixes l G h0 v2 σ3 σ4 e4) (cwV 1 hts (lw_V q1344 q1346 qs60 q67 q1347) rfl rfl rfl (by decide +kernel) ⟨Nat.le_of_ble_eq_true rfl, Nat.le_of_ble_eq_true rfl⟩) (mm_preV F.2.2.2.2.2 hH (ci := 2) rfl ek) rfl rfl hl.1 rfl (lv_room (Nat.le_of_ble_eq_true rfl)) dX2_digest_84 ⟨Nat.le_of_ble_eq_true rfl, Nat.le_of_ble_eq_true rfl⟩) hH (fun H locs hH => ?_)
    refine lv_iinc (v := x2 + (1 : Int32)) (lv' := [(2, .int (x2 + (1 : Int32))), (0, .ref h0), (1, .int x1)]) hx hb dX2_digest_87 hl (k := 2) rfl rfl (by decide) rfl (fun ls hl => ?_)
    refine lv_goto (tgt := 71) hx hb dX2_digest_90 (by decide) ?_
    rw [evn_l] at hf
    exact IH71 x1 (x2 + (1 : Int32)) σ4 _ _ _ hH (lv_sub hl [1, 2, 0] rfl) hf
set_option maxHeartbeats 4000000 in
theorem w_X2_digest_95 {p : Program} {l : Launch} {e : Env} {s : State} {m : MethodId} {av : Array Value} {below : List Frame} {meth : Method} {c : Code} {G : mm_G} {σf : mm_M} {rr : Int64} {n : Nat} {h0 : Nat} (F : mm_F p s m av c RX2 cX2_digest 3 G) (hr : meth.sig.returnType = (Option.some .long)) (hlocks : meth.locks = false) (hname : meth.name = yX2_digest.name) (IH9 : ∀ (x1 : Int32) (σ : mm_M) (H : Heap) (locs : List Loc) (ls : Array Slot), mm_H G s σ H locs → lv_has ls 3 [(0, .ref h0), (1, .int x1)] → itn (s_X2_digest h0) n (.inl (x1, σ)) = some (rr, σf) → W p l e rm_X2_digest s m av below meth c H locs 0 0 (MQ below (mm_Ql G rr σf) av s 0 0 (mm_A G)) (F0 m 9 ls [])) (IH32 : ∀ (x1 : Int32) (σ : mm_M) (H : Heap) (locs : List Loc) (ls : Array Slot), mm_H G s σ H locs → lv_has ls 3 [(0, .ref h0), (1, .int x1)] → itn (s_X2_digest h0) n (.inr (.inl (x1, σ))) = some (rr, σf) → W p l e rm_X2_digest s m av below meth c H locs 0 0 (MQ below (mm_Ql G rr σf) av s 0 0 (mm_A G)) (F0 m 32 ls [])) (IH64 : ∀ (x1 : Int32) (σ : mm_M) (H : Heap) (locs : List Loc) (ls : Array Slot), mm_H G s σ H locs → lv_has ls 3 [(0, .ref h0), (1, .int x1)] → itn (s_X2_digest h0) n (.inr (.inr (.inl (x1, σ)))) = some (rr, σf) → W p l e rm_X2_digest s m av below meth c H locs 0 0 (MQ below (mm_Ql G rr σf) av s 0 0 (mm_A G)) (F0 m 64 ls [])) (IH71 : ∀ (x1 : Int32) (x2 : Int32) (σ : mm_M) (H : Heap) (locs : List Loc) (ls : Array Slot), mm_H G s σ H locs → lv_has ls 3 [(0, .ref h0), (1, .int x1), (2, .int x2)] → itn (s_X2_digest h0) n (.inr (.inr (.inr (.inl (x1, x2, σ))))) = some (rr, σf) → W p l e rm_X2_digest s m av below meth c H locs 0 0 (MQ below (mm_Ql G rr σf) av s 0 0 (mm_A G)) (F0 m 71 ls [])) (IH95 : ∀ (x1 : Int32) (x2 : Int32) (σ : mm_M) (H : Heap) (locs : List Loc) (ls : Array Slot), mm_H G s σ H locs → lv_has ls 3 [(0, .ref h0), (1, .int x1), (2, .int x2)] → itn (s_X2_digest h0) n (.inr (.inr (.inr (.inr (.inl (x1, x2, σ)))))) = some (rr, σf) → W p l e rm_X2_digest s m av below meth c H locs 0 0 (MQ below (mm_Ql G rr σf) av s 0 0 (mm_A G)) (F0 m 95 ls [])) (IH142 : ∀ (x1 : Int32) (σ : mm_M) (H : Heap) (locs : List Loc) (ls : Array Slot), mm_H G s σ H locs → lv_has ls 3 [(0, .ref h0), (1, .int x1)] → itn (s_X2_digest h0) n (.inr (.inr (.inr (.inr (.inr (.inl (x1, σ))))))) = some (rr, σf) → W p l e rm_X2_digest s m av below meth c H locs 0 0 (MQ below (mm_Ql G rr σf) av s 0 0 (mm_A G)) (F0 m 142 ls [])) (IH164 : ∀ (x1 : Int32) (σ : mm_M) (H : Heap) (locs : List Loc) (ls : Array Slot), mm_H G s σ H locs → lv_has ls 3 [(0, .ref h0), (1, .int x1)] → itn (s_X2_digest h0) n (.inr (.inr (.inr (.inr (.inr (.inr (.inl (x1, σ)))))))) = some (rr, σf) → W p l e rm_X2_digest s m av below meth c H locs 0 0 (MQ below (mm_Ql G rr σf) av s 0 0 (mm_A G)) (F0 m 164 ls [])) (IH204 : ∀ (x1 : Int32) (σ : mm_M) (H : Heap) (locs : List Loc) (ls : Array Slot), mm_H G s σ H locs → lv_has ls 3 [(0, .ref h0), (1, .int x1)] → itn (s_X2_digest h0) n (.inr (.inr (.inr (.inr (.inr (.inr (.inr (x1, σ)))))))) = some (rr, σf) → W p l e rm_X2_digest s m av below meth c H locs 0 0 (MQ below (mm_Ql G rr σf) av s 0 0 (mm_A G)) (F0 m 204 ls []))  (x1 : Int32) (x2 : Int32)  (σ : mm_M) (hf : evn (s_X2_digest h0) n (g_X2_digest_95 h0 x1 x2 σ) = some (rr, σf)) {H : Heap} {locs : List Loc} {ls : Array Slot} (hH : mm_H G s σ H locs) (hl : lv_has ls 3 [(0, .ref h0), (1, .int x1), (2, .int x2)]) : W p l e rm_X2_digest s m av below meth c H locs 0 0 (MQ below (mm_Ql G rr σf) av s 0 0 (mm_A G)) (F0 m 95 ls []) := by
  have hx := F.1
  have hb := F.2.1
  have hml := F.2.2.1
  have hown := F.2.2.2.1
  have hts := F.2.2.2.2.1
  unfold g_X2_digest_95 at hf
  refine lv_iload_n hx hb dX2_digest_95 rfl (lv_at hl 2 rfl) ?_
  refine lv_aload_n hx hb dX2_digest_96 rfl (lv_at hl 0 rfl) ?_
  replace hf := evn_b1 hf
  obtain ⟨q1, e1, hf⟩ := hf
  refine mm_getA F hH mc_2 (k := 0) (by decide) (hts _ q1047) (fun _ h => h) e1 dX2_digest_97 ?_
  refine lv_iconst (v := 0) hx hb dX2_digest_100 (by decide) ?_
  refine lv_iload_n hx hb dX2_digest_101 rfl (lv_at hl 1 rfl) ?_
  refine lv_iadd hx hb dX2_digest_102 ?_
  replace hf := evn_b1 hf
  obtain ⟨v2, e2, hf⟩ := hf
  refine mm_iald F hH e2 dX2_digest_103 ?_
  refine lv_icmp_ge (tgt := 129) hx hb dX2_digest_104 (by decide) (fun c3 => ?_) (fun c3 => ?_)
  · rw [if_pos c3] at hf
    refine lv_aload_n hx hb dX2_digest_129 rfl (lv_at hl 0 rfl) ?_
    refine lv_iload_n hx hb dX2_digest_130 rfl (lv_at hl 1 rfl) ?_
    refine lv_iconst (v := 1) hx hb dX2_digest_131 (by decide) ?_
    refine lv_iadd hx hb dX2_digest_132 ?_
    replace hf := evn_b1 hf
    obtain ⟨u, e3, hf⟩ := hf
    obtain ⟨fs, ek⟩ := ck_i e3
    replace hf := evn_b1 hf
    obtain ⟨v4, e4, hf⟩ := hf
    refine mm_ci (va_runV (As := [.int (x1 + (1 : Int32))]) (rest := []) ⟨hx, hb, hml, hown, hts⟩ (m_X2_objectFrom l G h0 (x1 + (1 : Int32)) σ v4 e4) (cwV 1 hts (lw_V q1148 q1150 qs39 q67 q1151) rfl rfl rfl (by decide +kernel) ⟨Nat.le_of_ble_eq_true rfl, Nat.le_of_ble_eq_true rfl⟩) (mm_preV F.2.2.2.2.2 hH (ci := 2) rfl ek) rfl rfl hl.1 rfl (lv_room (Nat.le_of_ble_eq_true rfl)) dX2_digest_133 ⟨Nat.le_of_ble_eq_true rfl, Nat.le_of_ble_eq_true rfl⟩) hH (fun H locs hH => ?_)
    refine lv_istore_n (lv' := [(1, .int v4), (0, .ref h0), (2, .int x2)]) hx hb dX2_digest_136 rfl hl (by decide) rfl (fun ls hl => ?_)
    refine lv_goto (tgt := 64) hx hb dX2_digest_137 (by decide) ?_
    rw [evn_l] at hf
    exact IH64 v4 σ _ _ _ hH (lv_sub hl [1, 0] rfl) hf
  · rw [if_neg c3] at hf
    refine lv_aload_n hx hb dX2_digest_107 rfl (lv_at hl 0 rfl) ?_
    refine lv_aload_n hx hb dX2_digest_108 rfl (lv_at hl 0 rfl) ?_
    replace hf := evn_b1 hf
    obtain ⟨q5, e5, hf⟩ := hf
    refine mm_getA F hH mc_2 (k := 0) (by decide) (hts _ q1047) (fun _ h => h) e5 dX2_digest_109 ?_
    refine lv_sipush (v := 800) hx hb dX2_digest_112 (by decide) ?_
    refine lv_iload_n hx hb dX2_digest_115 rfl (lv_at hl 1 rfl) ?_
    refine lv_iadd hx hb dX2_digest_116 ?_
    refine lv_iload_n hx hb dX2_digest_117 rfl (lv_at hl 2 rfl) ?_
    refine lv_iadd hx hb dX2_digest_118 ?_
    replace hf := evn_b1 hf
    obtain ⟨v6, e6, hf⟩ := hf
    refine mm_iald F hH e6 dX2_digest_119 ?_
    replace hf := evn_b1 hf
    obtain ⟨u, e7, hf⟩ := hf
    obtain ⟨fs, ek⟩ := ck_i e7
    replace hf := evn_b1 hf
    obtain ⟨σ7, e8, hf⟩ := hf
    refine mm_cv (va_runV (As := [.int v6]) (rest := []) ⟨hx, hb, hml, hown, hts⟩ (m_X2_mixes l G h0 v6 σ σ7 e8) (cwV 1 hts (lw_V q1344 q1346 qs60 q67 q1347) rfl rfl rfl (by decide +kernel) ⟨Nat.le_of_ble_eq_true rfl, Nat.le_of_ble_eq_true rfl⟩) (mm_preV F.2.2.2.2.2 hH (ci := 2) rfl ek) rfl rfl hl.1 rfl (lv_room (Nat.le_of_ble_eq_true rfl)) dX2_digest_120 ⟨Nat.le_of_ble_eq_true rfl, Nat.le_of_ble_eq_true rfl⟩) hH (fun H locs hH => ?_)
    refine lv_iinc (v := x2 + (1 : Int32)) (lv' := [(2, .int (x2 + (1 : Int32))), (0, .ref h0), (1, .int x1)]) hx hb dX2_digest_123 hl (k := 2) rfl rfl (by decide) rfl (fun ls hl => ?_)
    refine lv_goto (tgt := 95) hx hb dX2_digest_126 (by decide) ?_
    rw [evn_l] at hf
    exact IH95 x1 (x2 + (1 : Int32)) σ7 _ _ _ hH (lv_sub hl [1, 2, 0] rfl) hf
set_option maxHeartbeats 4000000 in
theorem w_X2_digest_142 {p : Program} {l : Launch} {e : Env} {s : State} {m : MethodId} {av : Array Value} {below : List Frame} {meth : Method} {c : Code} {G : mm_G} {σf : mm_M} {rr : Int64} {n : Nat} {h0 : Nat} (F : mm_F p s m av c RX2 cX2_digest 3 G) (hr : meth.sig.returnType = (Option.some .long)) (hlocks : meth.locks = false) (hname : meth.name = yX2_digest.name) (IH9 : ∀ (x1 : Int32) (σ : mm_M) (H : Heap) (locs : List Loc) (ls : Array Slot), mm_H G s σ H locs → lv_has ls 3 [(0, .ref h0), (1, .int x1)] → itn (s_X2_digest h0) n (.inl (x1, σ)) = some (rr, σf) → W p l e rm_X2_digest s m av below meth c H locs 0 0 (MQ below (mm_Ql G rr σf) av s 0 0 (mm_A G)) (F0 m 9 ls [])) (IH32 : ∀ (x1 : Int32) (σ : mm_M) (H : Heap) (locs : List Loc) (ls : Array Slot), mm_H G s σ H locs → lv_has ls 3 [(0, .ref h0), (1, .int x1)] → itn (s_X2_digest h0) n (.inr (.inl (x1, σ))) = some (rr, σf) → W p l e rm_X2_digest s m av below meth c H locs 0 0 (MQ below (mm_Ql G rr σf) av s 0 0 (mm_A G)) (F0 m 32 ls [])) (IH64 : ∀ (x1 : Int32) (σ : mm_M) (H : Heap) (locs : List Loc) (ls : Array Slot), mm_H G s σ H locs → lv_has ls 3 [(0, .ref h0), (1, .int x1)] → itn (s_X2_digest h0) n (.inr (.inr (.inl (x1, σ)))) = some (rr, σf) → W p l e rm_X2_digest s m av below meth c H locs 0 0 (MQ below (mm_Ql G rr σf) av s 0 0 (mm_A G)) (F0 m 64 ls [])) (IH71 : ∀ (x1 : Int32) (x2 : Int32) (σ : mm_M) (H : Heap) (locs : List Loc) (ls : Array Slot), mm_H G s σ H locs → lv_has ls 3 [(0, .ref h0), (1, .int x1), (2, .int x2)] → itn (s_X2_digest h0) n (.inr (.inr (.inr (.inl (x1, x2, σ))))) = some (rr, σf) → W p l e rm_X2_digest s m av below meth c H locs 0 0 (MQ below (mm_Ql G rr σf) av s 0 0 (mm_A G)) (F0 m 71 ls [])) (IH95 : ∀ (x1 : Int32) (x2 : Int32) (σ : mm_M) (H : Heap) (locs : List Loc) (ls : Array Slot), mm_H G s σ H locs → lv_has ls 3 [(0, .ref h0), (1, .int x1), (2, .int x2)] → itn (s_X2_digest h0) n (.inr (.inr (.inr (.inr (.inl (x1, x2, σ)))))) = some (rr, σf) → W p l e rm_X2_digest s m av below meth c H locs 0 0 (MQ below (mm_Ql G rr σf) av s 0 0 (mm_A G)) (F0 m 95 ls [])) (IH142 : ∀ (x1 : Int32) (σ : mm_M) (H : Heap) (locs : List Loc) (ls : Array Slot), mm_H G s σ H locs → lv_has ls 3 [(0, .ref h0), (1, .int x1)] → itn (s_X2_digest h0) n (.inr (.inr (.inr (.inr (.inr (.inl (x1, σ))))))) = some (rr, σf) → W p l e rm_X2_digest s m av below meth c H locs 0 0 (MQ below (mm_Ql G rr σf) av s 0 0 (mm_A G)) (F0 m 142 ls [])) (IH164 : ∀ (x1 : Int32) (σ : mm_M) (H : Heap) (locs : List Loc) (ls : Array Slot), mm_H G s σ H locs → lv_has ls 3 [(0, .ref h0), (1, .int x1)] → itn (s_X2_digest h0) n (.inr (.inr (.inr (.inr (.inr (.inr (.inl (x1, σ)))))))) = some (rr, σf) → W p l e rm_X2_digest s m av below meth c H locs 0 0 (MQ below (mm_Ql G rr σf) av s 0 0 (mm_A G)) (F0 m 164 ls [])) (IH204 : ∀ (x1 : Int32) (σ : mm_M) (H : Heap) (locs : List Loc) (ls : Array Slot), mm_H G s σ H locs → lv_has ls 3 [(0, .ref h0), (1, .int x1)] → itn (s_X2_digest h0) n (.inr (.inr (.inr (.inr (.inr (.inr (.inr (x1, σ)))))))) = some (rr, σf) → W p l e rm_X2_digest s m av below meth c H locs 0 0 (MQ below (mm_Ql G rr σf) av s 0 0 (mm_A G)) (F0 m 204 ls []))  (x1 : Int32)  (σ : mm_M) (hf : evn (s_X2_digest h0) n (g_X2_digest_142 h0 x1 σ) = some (rr, σf)) {H : Heap} {locs : List Loc} {ls : Array Slot} (hH : mm_H G s σ H locs) (hl : lv_has ls 3 [(0, .ref h0), (1, .int x1)]) : W p l e rm_X2_digest s m av below meth c H locs 0 0 (MQ below (mm_Ql G rr σf) av s 0 0 (mm_A G)) (F0 m 142 ls []) := by
  have hx := F.1
  have hb := F.2.1
  have hml := F.2.2.1
  have hown := F.2.2.2.1
  have hts := F.2.2.2.2.1
  unfold g_X2_digest_142 at hf
  refine lv_iload_n hx hb dX2_digest_142 rfl (lv_at hl 1 rfl) ?_
  refine lv_iconst (v := 5) hx hb dX2_digest_143 (by decide) ?_
  refine lv_icmp_ge (tgt := 162) hx hb dX2_digest_144 (by decide) (fun c1 => ?_) (fun c1 => ?_)
  · rw [if_pos c1] at hf
    refine lv_iconst (v := 0) hx hb dX2_digest_162 (by decide) ?_
    refine lv_istore_n (lv' := [(1, .int (0 : Int32)), (0, .ref h0)]) hx hb dX2_digest_163 rfl hl (by decide) rfl (fun ls hl => ?_)
    rw [evn_l] at hf
    exact IH164 (0 : Int32) σ _ _ _ hH (lv_sub hl [1, 0] rfl) hf
  · rw [if_neg c1] at hf
    refine lv_aload_n hx hb dX2_digest_147 rfl (lv_at hl 0 rfl) ?_
    refine lv_aload_n hx hb dX2_digest_148 rfl (lv_at hl 0 rfl) ?_
    refine lv_iload_n hx hb dX2_digest_149 rfl (lv_at hl 1 rfl) ?_
    replace hf := evn_b1 hf
    obtain ⟨u, e1, hf⟩ := hf
    obtain ⟨fs, ek⟩ := ck_i e1
    replace hf := evn_b1 hf
    obtain ⟨v2, e2, hf⟩ := hf
    refine mm_ci (va_runV (As := [.int x1]) (rest := [.ref h0]) ⟨hx, hb, hml, hown, hts⟩ (m_X2_free l G h0 x1 σ v2 e2) (cwV 1 hts (lw_V q1350 q1260 q1261 q67 q1262) rfl rfl rfl (by decide +kernel) ⟨Nat.le_of_ble_eq_true rfl, Nat.le_of_ble_eq_true rfl⟩) (mm_preV F.2.2.2.2.2 hH (ci := 2) rfl ek) rfl rfl hl.1 rfl (lv_room (Nat.le_of_ble_eq_true rfl)) dX2_digest_150 ⟨Nat.le_of_ble_eq_true rfl, Nat.le_of_ble_eq_true rfl⟩) hH (fun H locs hH => ?_)
    replace hf := evn_b1 hf
    obtain ⟨u, e3, hf⟩ := hf
    obtain ⟨fs, ek⟩ := ck_i e3
    replace hf := evn_b1 hf
    obtain ⟨σ3, e4, hf⟩ := hf
    refine mm_cv (va_runV (As := [.int v2]) (rest := []) ⟨hx, hb, hml, hown, hts⟩ (m_X2_mixes l G h0 v2 σ σ3 e4) (cwV 1 hts (lw_V q1344 q1346 qs60 q67 q1347) rfl rfl rfl (by decide +kernel) ⟨Nat.le_of_ble_eq_true rfl, Nat.le_of_ble_eq_true rfl⟩) (mm_preV F.2.2.2.2.2 hH (ci := 2) rfl ek) rfl rfl hl.1 rfl (lv_room (Nat.le_of_ble_eq_true rfl)) dX2_digest_153 ⟨Nat.le_of_ble_eq_true rfl, Nat.le_of_ble_eq_true rfl⟩) hH (fun H locs hH => ?_)
    refine lv_iinc (v := x1 + (1 : Int32)) (lv' := [(1, .int (x1 + (1 : Int32))), (0, .ref h0)]) hx hb dX2_digest_156 hl (k := 1) rfl rfl (by decide) rfl (fun ls hl => ?_)
    refine lv_goto (tgt := 142) hx hb dX2_digest_159 (by decide) ?_
    rw [evn_l] at hf
    exact IH142 (x1 + (1 : Int32)) σ3 _ _ _ hH (lv_sub hl [1, 0] rfl) hf
set_option maxHeartbeats 4000000 in
theorem w_X2_digest_164 {p : Program} {l : Launch} {e : Env} {s : State} {m : MethodId} {av : Array Value} {below : List Frame} {meth : Method} {c : Code} {G : mm_G} {σf : mm_M} {rr : Int64} {n : Nat} {h0 : Nat} (F : mm_F p s m av c RX2 cX2_digest 3 G) (hr : meth.sig.returnType = (Option.some .long)) (hlocks : meth.locks = false) (hname : meth.name = yX2_digest.name) (IH9 : ∀ (x1 : Int32) (σ : mm_M) (H : Heap) (locs : List Loc) (ls : Array Slot), mm_H G s σ H locs → lv_has ls 3 [(0, .ref h0), (1, .int x1)] → itn (s_X2_digest h0) n (.inl (x1, σ)) = some (rr, σf) → W p l e rm_X2_digest s m av below meth c H locs 0 0 (MQ below (mm_Ql G rr σf) av s 0 0 (mm_A G)) (F0 m 9 ls [])) (IH32 : ∀ (x1 : Int32) (σ : mm_M) (H : Heap) (locs : List Loc) (ls : Array Slot), mm_H G s σ H locs → lv_has ls 3 [(0, .ref h0), (1, .int x1)] → itn (s_X2_digest h0) n (.inr (.inl (x1, σ))) = some (rr, σf) → W p l e rm_X2_digest s m av below meth c H locs 0 0 (MQ below (mm_Ql G rr σf) av s 0 0 (mm_A G)) (F0 m 32 ls [])) (IH64 : ∀ (x1 : Int32) (σ : mm_M) (H : Heap) (locs : List Loc) (ls : Array Slot), mm_H G s σ H locs → lv_has ls 3 [(0, .ref h0), (1, .int x1)] → itn (s_X2_digest h0) n (.inr (.inr (.inl (x1, σ)))) = some (rr, σf) → W p l e rm_X2_digest s m av below meth c H locs 0 0 (MQ below (mm_Ql G rr σf) av s 0 0 (mm_A G)) (F0 m 64 ls [])) (IH71 : ∀ (x1 : Int32) (x2 : Int32) (σ : mm_M) (H : Heap) (locs : List Loc) (ls : Array Slot), mm_H G s σ H locs → lv_has ls 3 [(0, .ref h0), (1, .int x1), (2, .int x2)] → itn (s_X2_digest h0) n (.inr (.inr (.inr (.inl (x1, x2, σ))))) = some (rr, σf) → W p l e rm_X2_digest s m av below meth c H locs 0 0 (MQ below (mm_Ql G rr σf) av s 0 0 (mm_A G)) (F0 m 71 ls [])) (IH95 : ∀ (x1 : Int32) (x2 : Int32) (σ : mm_M) (H : Heap) (locs : List Loc) (ls : Array Slot), mm_H G s σ H locs → lv_has ls 3 [(0, .ref h0), (1, .int x1), (2, .int x2)] → itn (s_X2_digest h0) n (.inr (.inr (.inr (.inr (.inl (x1, x2, σ)))))) = some (rr, σf) → W p l e rm_X2_digest s m av below meth c H locs 0 0 (MQ below (mm_Ql G rr σf) av s 0 0 (mm_A G)) (F0 m 95 ls [])) (IH142 : ∀ (x1 : Int32) (σ : mm_M) (H : Heap) (locs : List Loc) (ls : Array Slot), mm_H G s σ H locs → lv_has ls 3 [(0, .ref h0), (1, .int x1)] → itn (s_X2_digest h0) n (.inr (.inr (.inr (.inr (.inr (.inl (x1, σ))))))) = some (rr, σf) → W p l e rm_X2_digest s m av below meth c H locs 0 0 (MQ below (mm_Ql G rr σf) av s 0 0 (mm_A G)) (F0 m 142 ls [])) (IH164 : ∀ (x1 : Int32) (σ : mm_M) (H : Heap) (locs : List Loc) (ls : Array Slot), mm_H G s σ H locs → lv_has ls 3 [(0, .ref h0), (1, .int x1)] → itn (s_X2_digest h0) n (.inr (.inr (.inr (.inr (.inr (.inr (.inl (x1, σ)))))))) = some (rr, σf) → W p l e rm_X2_digest s m av below meth c H locs 0 0 (MQ below (mm_Ql G rr σf) av s 0 0 (mm_A G)) (F0 m 164 ls [])) (IH204 : ∀ (x1 : Int32) (σ : mm_M) (H : Heap) (locs : List Loc) (ls : Array Slot), mm_H G s σ H locs → lv_has ls 3 [(0, .ref h0), (1, .int x1)] → itn (s_X2_digest h0) n (.inr (.inr (.inr (.inr (.inr (.inr (.inr (x1, σ)))))))) = some (rr, σf) → W p l e rm_X2_digest s m av below meth c H locs 0 0 (MQ below (mm_Ql G rr σf) av s 0 0 (mm_A G)) (F0 m 204 ls []))  (x1 : Int32)  (σ : mm_M) (hf : evn (s_X2_digest h0) n (g_X2_digest_164 h0 x1 σ) = some (rr, σf)) {H : Heap} {locs : List Loc} {ls : Array Slot} (hH : mm_H G s σ H locs) (hl : lv_has ls 3 [(0, .ref h0), (1, .int x1)]) : W p l e rm_X2_digest s m av below meth c H locs 0 0 (MQ below (mm_Ql G rr σf) av s 0 0 (mm_A G)) (F0 m 164 ls []) := by
  have hx := F.1
  have hb := F.2.1
  have hml := F.2.2.1
  have hown := F.2.2.2.1
  have hts := F.2.2.2.2.1
  unfold g_X2_digest_164 at hf
  refine lv_iload_n hx hb dX2_digest_164 rfl (lv_at hl 1 rfl) ?_
  refine lv_bipush (v := 6) hx hb dX2_digest_165 (by decide) ?_
  refine lv_icmp_ge (tgt := 202) hx hb dX2_digest_167 (by decide) (fun c1 => ?_) (fun c1 => ?_)
  · rw [if_pos c1] at hf
    refine lv_iconst (v := 0) hx hb dX2_digest_202 (by decide) ?_
    refine lv_istore_n (lv' := [(1, .int (0 : Int32)), (0, .ref h0)]) hx hb dX2_digest_203 rfl hl (by decide) rfl (fun ls hl => ?_)
    rw [evn_l] at hf
    exact IH204 (0 : Int32) σ _ _ _ hH (lv_sub hl [1, 0] rfl) hf
  · rw [if_neg c1] at hf
    refine lv_aload_n hx hb dX2_digest_170 rfl (lv_at hl 0 rfl) ?_
    replace hf := evn_b1 hf
    obtain ⟨q2, e1, hf⟩ := hf
    refine mm_getA F hH mc_2 (k := 0) (by decide) (hts _ q1047) (fun _ h => h) e1 dX2_digest_171 ?_
    refine lv_sipush (v := 1221) hx hb dX2_digest_174 (by decide) ?_
    replace hf := evn_b1 hf
    obtain ⟨v3, e2, hf⟩ := hf
    refine mm_iald F hH e2 dX2_digest_177 ?_
    refine lv_iconst (v := 1) hx hb dX2_digest_178 (by decide) ?_
    refine lv_icmp_ne (tgt := 202) hx hb dX2_digest_179 (by decide) (fun c4 => ?_) (fun c4 => ?_)
    · rw [if_neg c4] at hf
      refine lv_iconst (v := 0) hx hb dX2_digest_202 (by decide) ?_
      refine lv_istore_n (lv' := [(1, .int (0 : Int32)), (0, .ref h0)]) hx hb dX2_digest_203 rfl hl (by decide) rfl (fun ls hl => ?_)
      rw [evn_l] at hf
      exact IH204 (0 : Int32) σ _ _ _ hH (lv_sub hl [1, 0] rfl) hf
    · rw [if_pos c4] at hf
      refine lv_aload_n hx hb dX2_digest_182 rfl (lv_at hl 0 rfl) ?_
      refine lv_aload_n hx hb dX2_digest_183 rfl (lv_at hl 0 rfl) ?_
      replace hf := evn_b1 hf
      obtain ⟨q5, e3, hf⟩ := hf
      refine mm_getA F hH mc_2 (k := 0) (by decide) (hts _ q1047) (fun _ h => h) e3 dX2_digest_184 ?_
      refine lv_sipush (v := 1210) hx hb dX2_digest_187 (by decide) ?_
      refine lv_iload_n hx hb dX2_digest_190 rfl (lv_at hl 1 rfl) ?_
      refine lv_iadd hx hb dX2_digest_191 ?_
      replace hf := evn_b1 hf
      obtain ⟨v6, e4, hf⟩ := hf
      refine mm_iald F hH e4 dX2_digest_192 ?_
      replace hf := evn_b1 hf
      obtain ⟨u, e5, hf⟩ := hf
      obtain ⟨fs, ek⟩ := ck_i e5
      replace hf := evn_b1 hf
      obtain ⟨σ7, e6, hf⟩ := hf
      refine mm_cv (va_runV (As := [.int v6]) (rest := []) ⟨hx, hb, hml, hown, hts⟩ (m_X2_mixes l G h0 v6 σ σ7 e6) (cwV 1 hts (lw_V q1344 q1346 qs60 q67 q1347) rfl rfl rfl (by decide +kernel) ⟨Nat.le_of_ble_eq_true rfl, Nat.le_of_ble_eq_true rfl⟩) (mm_preV F.2.2.2.2.2 hH (ci := 2) rfl ek) rfl rfl hl.1 rfl (lv_room (Nat.le_of_ble_eq_true rfl)) dX2_digest_193 ⟨Nat.le_of_ble_eq_true rfl, Nat.le_of_ble_eq_true rfl⟩) hH (fun H locs hH => ?_)
      refine lv_iinc (v := x1 + (1 : Int32)) (lv' := [(1, .int (x1 + (1 : Int32))), (0, .ref h0)]) hx hb dX2_digest_196 hl (k := 1) rfl rfl (by decide) rfl (fun ls hl => ?_)
      refine lv_goto (tgt := 164) hx hb dX2_digest_199 (by decide) ?_
      rw [evn_l] at hf
      exact IH164 (x1 + (1 : Int32)) σ7 _ _ _ hH (lv_sub hl [1, 0] rfl) hf
set_option maxHeartbeats 4000000 in
theorem w_X2_digest_204 {p : Program} {l : Launch} {e : Env} {s : State} {m : MethodId} {av : Array Value} {below : List Frame} {meth : Method} {c : Code} {G : mm_G} {σf : mm_M} {rr : Int64} {n : Nat} {h0 : Nat} (F : mm_F p s m av c RX2 cX2_digest 3 G) (hr : meth.sig.returnType = (Option.some .long)) (hlocks : meth.locks = false) (hname : meth.name = yX2_digest.name) (IH9 : ∀ (x1 : Int32) (σ : mm_M) (H : Heap) (locs : List Loc) (ls : Array Slot), mm_H G s σ H locs → lv_has ls 3 [(0, .ref h0), (1, .int x1)] → itn (s_X2_digest h0) n (.inl (x1, σ)) = some (rr, σf) → W p l e rm_X2_digest s m av below meth c H locs 0 0 (MQ below (mm_Ql G rr σf) av s 0 0 (mm_A G)) (F0 m 9 ls [])) (IH32 : ∀ (x1 : Int32) (σ : mm_M) (H : Heap) (locs : List Loc) (ls : Array Slot), mm_H G s σ H locs → lv_has ls 3 [(0, .ref h0), (1, .int x1)] → itn (s_X2_digest h0) n (.inr (.inl (x1, σ))) = some (rr, σf) → W p l e rm_X2_digest s m av below meth c H locs 0 0 (MQ below (mm_Ql G rr σf) av s 0 0 (mm_A G)) (F0 m 32 ls [])) (IH64 : ∀ (x1 : Int32) (σ : mm_M) (H : Heap) (locs : List Loc) (ls : Array Slot), mm_H G s σ H locs → lv_has ls 3 [(0, .ref h0), (1, .int x1)] → itn (s_X2_digest h0) n (.inr (.inr (.inl (x1, σ)))) = some (rr, σf) → W p l e rm_X2_digest s m av below meth c H locs 0 0 (MQ below (mm_Ql G rr σf) av s 0 0 (mm_A G)) (F0 m 64 ls [])) (IH71 : ∀ (x1 : Int32) (x2 : Int32) (σ : mm_M) (H : Heap) (locs : List Loc) (ls : Array Slot), mm_H G s σ H locs → lv_has ls 3 [(0, .ref h0), (1, .int x1), (2, .int x2)] → itn (s_X2_digest h0) n (.inr (.inr (.inr (.inl (x1, x2, σ))))) = some (rr, σf) → W p l e rm_X2_digest s m av below meth c H locs 0 0 (MQ below (mm_Ql G rr σf) av s 0 0 (mm_A G)) (F0 m 71 ls [])) (IH95 : ∀ (x1 : Int32) (x2 : Int32) (σ : mm_M) (H : Heap) (locs : List Loc) (ls : Array Slot), mm_H G s σ H locs → lv_has ls 3 [(0, .ref h0), (1, .int x1), (2, .int x2)] → itn (s_X2_digest h0) n (.inr (.inr (.inr (.inr (.inl (x1, x2, σ)))))) = some (rr, σf) → W p l e rm_X2_digest s m av below meth c H locs 0 0 (MQ below (mm_Ql G rr σf) av s 0 0 (mm_A G)) (F0 m 95 ls [])) (IH142 : ∀ (x1 : Int32) (σ : mm_M) (H : Heap) (locs : List Loc) (ls : Array Slot), mm_H G s σ H locs → lv_has ls 3 [(0, .ref h0), (1, .int x1)] → itn (s_X2_digest h0) n (.inr (.inr (.inr (.inr (.inr (.inl (x1, σ))))))) = some (rr, σf) → W p l e rm_X2_digest s m av below meth c H locs 0 0 (MQ below (mm_Ql G rr σf) av s 0 0 (mm_A G)) (F0 m 142 ls [])) (IH164 : ∀ (x1 : Int32) (σ : mm_M) (H : Heap) (locs : List Loc) (ls : Array Slot), mm_H G s σ H locs → lv_has ls 3 [(0, .ref h0), (1, .int x1)] → itn (s_X2_digest h0) n (.inr (.inr (.inr (.inr (.inr (.inr (.inl (x1, σ)))))))) = some (rr, σf) → W p l e rm_X2_digest s m av below meth c H locs 0 0 (MQ below (mm_Ql G rr σf) av s 0 0 (mm_A G)) (F0 m 164 ls [])) (IH204 : ∀ (x1 : Int32) (σ : mm_M) (H : Heap) (locs : List Loc) (ls : Array Slot), mm_H G s σ H locs → lv_has ls 3 [(0, .ref h0), (1, .int x1)] → itn (s_X2_digest h0) n (.inr (.inr (.inr (.inr (.inr (.inr (.inr (x1, σ)))))))) = some (rr, σf) → W p l e rm_X2_digest s m av below meth c H locs 0 0 (MQ below (mm_Ql G rr σf) av s 0 0 (mm_A G)) (F0 m 204 ls []))  (x1 : Int32)  (σ : mm_M) (hf : evn (s_X2_digest h0) n (g_X2_digest_204 h0 x1 σ) = some (rr, σf)) {H : Heap} {locs : List Loc} {ls : Array Slot} (hH : mm_H G s σ H locs) (hl : lv_has ls 3 [(0, .ref h0), (1, .int x1)]) : W p l e rm_X2_digest s m av below meth c H locs 0 0 (MQ below (mm_Ql G rr σf) av s 0 0 (mm_A G)) (F0 m 204 ls []) := by
  have hx := F.1
  have hb := F.2.1
  have hml := F.2.2.1
  have hown := F.2.2.2.1
  have hts := F.2.2.2.2.1
  unfold g_X2_digest_204 at hf
  refine lv_iload_n hx hb dX2_digest_204 rfl (lv_at hl 1 rfl) ?_
  refine lv_aload_n hx hb dX2_digest_205 rfl (lv_at hl 0 rfl) ?_
  replace hf := evn_b1 hf
  obtain ⟨v1, e1, hf⟩ := hf
  refine mm_getI F hH mc_2 (k := 5) (by decide) (hts _ q1052) (fun _ h => h) e1 dX2_digest_206 ?_
  refine lv_icmp_ge (tgt := 228) hx hb dX2_digest_209 (by decide) (fun c2 => ?_) (fun c2 => ?_)
  · rw [if_pos c2] at hf
    refine lv_aload_n hx hb dX2_digest_228 rfl (lv_at hl 0 rfl) ?_
    replace hf := evn_b1 hf
    obtain ⟨w3, e2, hf⟩ := hf
    refine mm_getL F hH mc_2 (k := 17) (by decide) (hts _ q1064) (fun _ h => h) e2 dX2_digest_229 ?_
    rw [evn_r] at hf
    obtain ⟨h1, h2⟩ := Prod.mk.inj (Option.some.inj hf)
    subst h1
    subst h2
    exact mm_retl F hH hr hlocks rfl dX2_digest_232
  · rw [if_neg c2] at hf
    refine lv_aload_n hx hb dX2_digest_212 rfl (lv_at hl 0 rfl) ?_
    refine lv_aload_n hx hb dX2_digest_213 rfl (lv_at hl 0 rfl) ?_
    replace hf := evn_b1 hf
    obtain ⟨q4, e3, hf⟩ := hf
    refine mm_getA F hH mc_2 (k := 4) (by decide) (hts _ q1051) (fun _ h => h) e3 dX2_digest_214 ?_
    refine lv_iload_n hx hb dX2_digest_217 rfl (lv_at hl 1 rfl) ?_
    replace hf := evn_b1 hf
    obtain ⟨v5, e4, hf⟩ := hf
    refine mm_iald F hH e4 dX2_digest_218 ?_
    replace hf := evn_b1 hf
    obtain ⟨u, e5, hf⟩ := hf
    obtain ⟨fs, ek⟩ := ck_i e5
    replace hf := evn_b1 hf
    obtain ⟨σ6, e6, hf⟩ := hf
    refine mm_cv (va_runV (As := [.int v5]) (rest := []) ⟨hx, hb, hml, hown, hts⟩ (m_X2_mixes l G h0 v5 σ σ6 e6) (cwV 1 hts (lw_V q1344 q1346 qs60 q67 q1347) rfl rfl rfl (by decide +kernel) ⟨Nat.le_of_ble_eq_true rfl, Nat.le_of_ble_eq_true rfl⟩) (mm_preV F.2.2.2.2.2 hH (ci := 2) rfl ek) rfl rfl hl.1 rfl (lv_room (Nat.le_of_ble_eq_true rfl)) dX2_digest_219 ⟨Nat.le_of_ble_eq_true rfl, Nat.le_of_ble_eq_true rfl⟩) hH (fun H locs hH => ?_)
    refine lv_iinc (v := x1 + (1 : Int32)) (lv' := [(1, .int (x1 + (1 : Int32))), (0, .ref h0)]) hx hb dX2_digest_222 hl (k := 1) rfl rfl (by decide) rfl (fun ls hl => ?_)
    refine lv_goto (tgt := 204) hx hb dX2_digest_225 (by decide) ?_
    rw [evn_l] at hf
    exact IH204 (x1 + (1 : Int32)) σ6 _ _ _ hH (lv_sub hl [1, 0] rfl) hf
set_option maxHeartbeats 4000000 in
theorem w_X2_digest_0 {p : Program} {l : Launch} {e : Env} {s : State} {m : MethodId} {av : Array Value} {below : List Frame} {meth : Method} {c : Code} {G : mm_G} {σf : mm_M} {rr : Int64} {n : Nat} {h0 : Nat} (F : mm_F p s m av c RX2 cX2_digest 3 G) (hr : meth.sig.returnType = (Option.some .long)) (hlocks : meth.locks = false) (hname : meth.name = yX2_digest.name) (IH9 : ∀ (x1 : Int32) (σ : mm_M) (H : Heap) (locs : List Loc) (ls : Array Slot), mm_H G s σ H locs → lv_has ls 3 [(0, .ref h0), (1, .int x1)] → itn (s_X2_digest h0) n (.inl (x1, σ)) = some (rr, σf) → W p l e rm_X2_digest s m av below meth c H locs 0 0 (MQ below (mm_Ql G rr σf) av s 0 0 (mm_A G)) (F0 m 9 ls [])) (IH32 : ∀ (x1 : Int32) (σ : mm_M) (H : Heap) (locs : List Loc) (ls : Array Slot), mm_H G s σ H locs → lv_has ls 3 [(0, .ref h0), (1, .int x1)] → itn (s_X2_digest h0) n (.inr (.inl (x1, σ))) = some (rr, σf) → W p l e rm_X2_digest s m av below meth c H locs 0 0 (MQ below (mm_Ql G rr σf) av s 0 0 (mm_A G)) (F0 m 32 ls [])) (IH64 : ∀ (x1 : Int32) (σ : mm_M) (H : Heap) (locs : List Loc) (ls : Array Slot), mm_H G s σ H locs → lv_has ls 3 [(0, .ref h0), (1, .int x1)] → itn (s_X2_digest h0) n (.inr (.inr (.inl (x1, σ)))) = some (rr, σf) → W p l e rm_X2_digest s m av below meth c H locs 0 0 (MQ below (mm_Ql G rr σf) av s 0 0 (mm_A G)) (F0 m 64 ls [])) (IH71 : ∀ (x1 : Int32) (x2 : Int32) (σ : mm_M) (H : Heap) (locs : List Loc) (ls : Array Slot), mm_H G s σ H locs → lv_has ls 3 [(0, .ref h0), (1, .int x1), (2, .int x2)] → itn (s_X2_digest h0) n (.inr (.inr (.inr (.inl (x1, x2, σ))))) = some (rr, σf) → W p l e rm_X2_digest s m av below meth c H locs 0 0 (MQ below (mm_Ql G rr σf) av s 0 0 (mm_A G)) (F0 m 71 ls [])) (IH95 : ∀ (x1 : Int32) (x2 : Int32) (σ : mm_M) (H : Heap) (locs : List Loc) (ls : Array Slot), mm_H G s σ H locs → lv_has ls 3 [(0, .ref h0), (1, .int x1), (2, .int x2)] → itn (s_X2_digest h0) n (.inr (.inr (.inr (.inr (.inl (x1, x2, σ)))))) = some (rr, σf) → W p l e rm_X2_digest s m av below meth c H locs 0 0 (MQ below (mm_Ql G rr σf) av s 0 0 (mm_A G)) (F0 m 95 ls [])) (IH142 : ∀ (x1 : Int32) (σ : mm_M) (H : Heap) (locs : List Loc) (ls : Array Slot), mm_H G s σ H locs → lv_has ls 3 [(0, .ref h0), (1, .int x1)] → itn (s_X2_digest h0) n (.inr (.inr (.inr (.inr (.inr (.inl (x1, σ))))))) = some (rr, σf) → W p l e rm_X2_digest s m av below meth c H locs 0 0 (MQ below (mm_Ql G rr σf) av s 0 0 (mm_A G)) (F0 m 142 ls [])) (IH164 : ∀ (x1 : Int32) (σ : mm_M) (H : Heap) (locs : List Loc) (ls : Array Slot), mm_H G s σ H locs → lv_has ls 3 [(0, .ref h0), (1, .int x1)] → itn (s_X2_digest h0) n (.inr (.inr (.inr (.inr (.inr (.inr (.inl (x1, σ)))))))) = some (rr, σf) → W p l e rm_X2_digest s m av below meth c H locs 0 0 (MQ below (mm_Ql G rr σf) av s 0 0 (mm_A G)) (F0 m 164 ls [])) (IH204 : ∀ (x1 : Int32) (σ : mm_M) (H : Heap) (locs : List Loc) (ls : Array Slot), mm_H G s σ H locs → lv_has ls 3 [(0, .ref h0), (1, .int x1)] → itn (s_X2_digest h0) n (.inr (.inr (.inr (.inr (.inr (.inr (.inr (x1, σ)))))))) = some (rr, σf) → W p l e rm_X2_digest s m av below meth c H locs 0 0 (MQ below (mm_Ql G rr σf) av s 0 0 (mm_A G)) (F0 m 204 ls []))    (σ : mm_M) (hf : evn (s_X2_digest h0) n (g_X2_digest_0 h0 σ) = some (rr, σf)) {H : Heap} {locs : List Loc} {ls : Array Slot} (hH : mm_H G s σ H locs) (hl : lv_has ls 3 [(0, .ref h0)]) : W p l e rm_X2_digest s m av below meth c H locs 0 0 (MQ below (mm_Ql G rr σf) av s 0 0 (mm_A G)) (F0 m 0 ls []) := by
  have hx := F.1
  have hb := F.2.1
  have hml := F.2.2.1
  have hown := F.2.2.2.1
  have hts := F.2.2.2.2.1
  unfold g_X2_digest_0 at hf
  refine lv_aload_n hx hb dX2_digest_0 rfl (lv_at hl 0 rfl) ?_
  refine lv_ldc2 (v := (47)) hx hb hown (hts _ q1342) dX2_digest_1 ?_
  replace hf := evn_b1 hf
  obtain ⟨σ1, e1, hf⟩ := hf
  refine mm_put F hH mc_2 (k := 17) (v := vL (47 : Int64)) (by decide) (hts _ q1064) (fun _ h => h) rfl rfl rfl e1 dX2_digest_4 (fun H locs hH => ?_)
  refine lv_iconst (v := 0) hx hb dX2_digest_7 (by decide) ?_
  refine lv_istore_n (lv' := [(1, .int (0 : Int32)), (0, .ref h0)]) hx hb dX2_digest_8 rfl hl (by decide) rfl (fun ls hl => ?_)
  rw [evn_l] at hf
  exact IH9 (0 : Int32) σ1 _ _ _ hH (lv_sub hl [1, 0] rfl) hf
set_option maxHeartbeats 4000000 in
theorem l_X2_digest {p : Program} {l : Launch} {e : Env} {s : State} {m : MethodId} {av : Array Value} {below : List Frame} {meth : Method} {c : Code} {G : mm_G} {σf : mm_M} {rr : Int64} {h0 : Nat} (F : mm_F p s m av c RX2 cX2_digest 3 G) (hr : meth.sig.returnType = (Option.some .long)) (hlocks : meth.locks = false) (hname : meth.name = yX2_digest.name) : ∀ n : Nat, (∀ (x1 : Int32) (σ : mm_M) (H : Heap) (locs : List Loc) (ls : Array Slot), mm_H G s σ H locs → lv_has ls 3 [(0, .ref h0), (1, .int x1)] → itn (s_X2_digest h0) n (.inl (x1, σ)) = some (rr, σf) → W p l e rm_X2_digest s m av below meth c H locs 0 0 (MQ below (mm_Ql G rr σf) av s 0 0 (mm_A G)) (F0 m 9 ls [])) ∧ (∀ (x1 : Int32) (σ : mm_M) (H : Heap) (locs : List Loc) (ls : Array Slot), mm_H G s σ H locs → lv_has ls 3 [(0, .ref h0), (1, .int x1)] → itn (s_X2_digest h0) n (.inr (.inl (x1, σ))) = some (rr, σf) → W p l e rm_X2_digest s m av below meth c H locs 0 0 (MQ below (mm_Ql G rr σf) av s 0 0 (mm_A G)) (F0 m 32 ls [])) ∧ (∀ (x1 : Int32) (σ : mm_M) (H : Heap) (locs : List Loc) (ls : Array Slot), mm_H G s σ H locs → lv_has ls 3 [(0, .ref h0), (1, .int x1)] → itn (s_X2_digest h0) n (.inr (.inr (.inl (x1, σ)))) = some (rr, σf) → W p l e rm_X2_digest s m av below meth c H locs 0 0 (MQ below (mm_Ql G rr σf) av s 0 0 (mm_A G)) (F0 m 64 ls [])) ∧ (∀ (x1 : Int32) (x2 : Int32) (σ : mm_M) (H : Heap) (locs : List Loc) (ls : Array Slot), mm_H G s σ H locs → lv_has ls 3 [(0, .ref h0), (1, .int x1), (2, .int x2)] → itn (s_X2_digest h0) n (.inr (.inr (.inr (.inl (x1, x2, σ))))) = some (rr, σf) → W p l e rm_X2_digest s m av below meth c H locs 0 0 (MQ below (mm_Ql G rr σf) av s 0 0 (mm_A G)) (F0 m 71 ls [])) ∧ (∀ (x1 : Int32) (x2 : Int32) (σ : mm_M) (H : Heap) (locs : List Loc) (ls : Array Slot), mm_H G s σ H locs → lv_has ls 3 [(0, .ref h0), (1, .int x1), (2, .int x2)] → itn (s_X2_digest h0) n (.inr (.inr (.inr (.inr (.inl (x1, x2, σ)))))) = some (rr, σf) → W p l e rm_X2_digest s m av below meth c H locs 0 0 (MQ below (mm_Ql G rr σf) av s 0 0 (mm_A G)) (F0 m 95 ls [])) ∧ (∀ (x1 : Int32) (σ : mm_M) (H : Heap) (locs : List Loc) (ls : Array Slot), mm_H G s σ H locs → lv_has ls 3 [(0, .ref h0), (1, .int x1)] → itn (s_X2_digest h0) n (.inr (.inr (.inr (.inr (.inr (.inl (x1, σ))))))) = some (rr, σf) → W p l e rm_X2_digest s m av below meth c H locs 0 0 (MQ below (mm_Ql G rr σf) av s 0 0 (mm_A G)) (F0 m 142 ls [])) ∧ (∀ (x1 : Int32) (σ : mm_M) (H : Heap) (locs : List Loc) (ls : Array Slot), mm_H G s σ H locs → lv_has ls 3 [(0, .ref h0), (1, .int x1)] → itn (s_X2_digest h0) n (.inr (.inr (.inr (.inr (.inr (.inr (.inl (x1, σ)))))))) = some (rr, σf) → W p l e rm_X2_digest s m av below meth c H locs 0 0 (MQ below (mm_Ql G rr σf) av s 0 0 (mm_A G)) (F0 m 164 ls [])) ∧ (∀ (x1 : Int32) (σ : mm_M) (H : Heap) (locs : List Loc) (ls : Array Slot), mm_H G s σ H locs → lv_has ls 3 [(0, .ref h0), (1, .int x1)] → itn (s_X2_digest h0) n (.inr (.inr (.inr (.inr (.inr (.inr (.inr (x1, σ)))))))) = some (rr, σf) → W p l e rm_X2_digest s m av below meth c H locs 0 0 (MQ below (mm_Ql G rr σf) av s 0 0 (mm_A G)) (F0 m 204 ls [])) := by
  intro n
  induction n with
  | zero =>
    exact ⟨fun x1 σ H locs ls hH hl hf => (by cases hf), fun x1 σ H locs ls hH hl hf => (by cases hf), fun x1 σ H locs ls hH hl hf => (by cases hf), fun x1 x2 σ H locs ls hH hl hf => (by cases hf), fun x1 x2 σ H locs ls hH hl hf => (by cases hf), fun x1 σ H locs ls hH hl hf => (by cases hf), fun x1 σ H locs ls hH hl hf => (by cases hf), fun x1 σ H locs ls hH hl hf => (by cases hf)⟩
  | succ n ih =>
    obtain ⟨IH9, IH32, IH64, IH71, IH95, IH142, IH164, IH204⟩ := ih
    refine ⟨?_, ?_, ?_, ?_, ?_, ?_, ?_, ?_⟩
    · intro x1 σ H locs ls hH hl hf
      rw [itn_s] at hf
      exact w_X2_digest_9 F hr hlocks hname IH9 IH32 IH64 IH71 IH95 IH142 IH164 IH204 x1 σ hf hH hl
    · intro x1 σ H locs ls hH hl hf
      rw [itn_s] at hf
      exact w_X2_digest_32 F hr hlocks hname IH9 IH32 IH64 IH71 IH95 IH142 IH164 IH204 x1 σ hf hH hl
    · intro x1 σ H locs ls hH hl hf
      rw [itn_s] at hf
      exact w_X2_digest_64 F hr hlocks hname IH9 IH32 IH64 IH71 IH95 IH142 IH164 IH204 x1 σ hf hH hl
    · intro x1 x2 σ H locs ls hH hl hf
      rw [itn_s] at hf
      exact w_X2_digest_71 F hr hlocks hname IH9 IH32 IH64 IH71 IH95 IH142 IH164 IH204 x1 x2 σ hf hH hl
    · intro x1 x2 σ H locs ls hH hl hf
      rw [itn_s] at hf
      exact w_X2_digest_95 F hr hlocks hname IH9 IH32 IH64 IH71 IH95 IH142 IH164 IH204 x1 x2 σ hf hH hl
    · intro x1 σ H locs ls hH hl hf
      rw [itn_s] at hf
      exact w_X2_digest_142 F hr hlocks hname IH9 IH32 IH64 IH71 IH95 IH142 IH164 IH204 x1 σ hf hH hl
    · intro x1 σ H locs ls hH hl hf
      rw [itn_s] at hf
      exact w_X2_digest_164 F hr hlocks hname IH9 IH32 IH64 IH71 IH95 IH142 IH164 IH204 x1 σ hf hH hl
    · intro x1 σ H locs ls hH hl hf
      rw [itn_s] at hf
      exact w_X2_digest_204 F hr hlocks hname IH9 IH32 IH64 IH71 IH95 IH142 IH164 IH204 x1 σ hf hH hl
set_option maxHeartbeats 4000000 in
theorem m_X2_digest (l : Launch) (G : mm_G) (h0 : Nat) (σ : mm_M) (σf : mm_M) (rr : Int64) (hf : f_X2_digest h0 σ = some (rr, σf)) : Met l yX2_digest (ws_ yX2_digest cX2_digest 3 ((Option.some .long))) rm_X2_digest (mm_Pc G [.ref h0] σ) (mm_Ql G rr σf) 0 0 (mm_A G) := by
  refine mm_met (by decide) rfl rfl (by  exact Nat.le_of_ble_eq_true rfl) (fun p e s m below meth c ls F hH hr hlocks hname hl => ?_)
  have hl : lv_has ls 3 [(0, .ref h0)] := by  exact hl
  have F : mm_F p s m _ c RX2 cX2_digest 3 G := F
  unfold f_X2_digest at hf
  obtain ⟨n, hf⟩ := lgo_i hf
  have IH := l_X2_digest (l := l) (e := e) (below := below) (rr := rr) (σf := σf) (h0 := h0) F hr hlocks hname n
  exact w_X2_digest_0 F hr hlocks hname IH.1 IH.2.1 IH.2.2.1 IH.2.2.2.1 IH.2.2.2.2.1 IH.2.2.2.2.2.1 IH.2.2.2.2.2.2.1 IH.2.2.2.2.2.2.2 σ hf hH (lv_sub hl [0] rfl)
