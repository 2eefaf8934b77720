/-! WALKS -/
set_option maxRecDepth 100000
/-! IslandHeap$Heap.alloc(II)I -/
abbrev rm_X1_alloc : Room := { frames := 6, cells := 4, slots := 268, locals := 141 }
set_option maxHeartbeats 4000000 in
theorem w_X1_alloc_33 {p : Program} {l : Launch} {e : Env} {s : State} {m : MethodId} {av : Array Value} {below : List Frame} {meth : Method} {c : Code} {G : mm_G} {σf : mm_M} {rr : Int32} {n : Nat} {h0 : Nat} {x1 : Int32} {x2 : Int32} (F : mm_F p s m av c RX1 cX1_alloc 7 G) (hr : meth.sig.returnType = (Option.some .int)) (hlocks : meth.locks = false) (hname : meth.name = yX1_alloc.name) (IH33 : ∀ (x3 : Int32) (a4 : Nat) (x5 : Int32) (σ : mm_M) (H : Heap) (locs : List Loc) (ls : Array Slot), mm_H G s σ H locs → lv_has ls 7 [(0, .ref h0), (1, .int x1), (2, .int x2), (3, .int x3), (4, .ref a4), (5, .int x5)] → itn (s_X1_alloc h0 x1 x2) n (.inl (x3, a4, x5, σ)) = some (rr, σf) → W p l e rm_X1_alloc s m av below meth c H locs 3 18 (MQ below (mm_Qi G rr σf) av s 4 268 (mm_A G)) (F0 m 33 ls [])) (IH84 : ∀ (x3 : Int32) (a4 : Nat) (x6 : Int32) (σ : mm_M) (H : Heap) (locs : List Loc) (ls : Array Slot), mm_H G s σ H locs → lv_has ls 7 [(0, .ref h0), (1, .int x1), (2, .int x2), (3, .int x3), (4, .ref a4), (6, .int x6)] → itn (s_X1_alloc h0 x1 x2) n (.inr (x3, a4, x6, σ)) = some (rr, σf) → W p l e rm_X1_alloc s m av below meth c H locs 4 268 (MQ below (mm_Qi G rr σf) av s 4 268 (mm_A G)) (F0 m 84 ls []))  (x3 : Int32) (a4 : Nat) (x5 : Int32)  (σ : mm_M) (hf : evn (s_X1_alloc h0 x1 x2) n (g_X1_alloc_33 h0 x1 x2 x3 a4 x5 σ) = some (rr, σf)) {H : Heap} {locs : List Loc} {ls : Array Slot} (hH : mm_H G s σ H locs) (hl : lv_has ls 7 [(0, .ref h0), (1, .int x1), (2, .int x2), (3, .int x3), (4, .ref a4), (5, .int x5)]) : W p l e rm_X1_alloc s m av below meth c H locs 3 18 (MQ below (mm_Qi G rr σf) av s 4 268 (mm_A G)) (F0 m 33 ls []) := by
  have hx := F.1
  have hb := F.2.1
  have hml := F.2.2.1
  have hown := F.2.2.2.1
  have hts := F.2.2.2.2.1
  unfold g_X1_alloc_33 at hf
  refine lv_iload hx hb dX1_alloc_33 (lv_at hl 5 rfl) ?_
  refine lv_aload_n hx hb dX1_alloc_35 rfl (lv_at hl 0 rfl) ?_
  replace hf := evn_b1 hf
  obtain ⟨q1, e1, hf⟩ := hf
  refine mm_getA F hH mc_1 (k := 2) (by decide) (hts _ q136) (fun _ h => h) e1 dX1_alloc_36 ?_
  replace hf := evn_b1 hf
  obtain ⟨u, e2, hf⟩ := hf
  obtain ⟨fs, ek⟩ := ck_i e2
  replace hf := evn_b1 hf
  obtain ⟨v2, e3, hf⟩ := hf
  refine mm_ci (va_runV (As := []) (rest := [.int x5]) ⟨hx, hb, hml, hown, hts⟩ (m_J2_size l G q1 σ v2 e3) (cwV 0 hts (lw_V q290 q291 q292 q66 q293) rfl rfl rfl (by decide +kernel) ⟨Nat.le_of_ble_eq_true rfl, Nat.le_of_ble_eq_true rfl⟩) (mm_preV F.2.2.2.2.2 hH (ci := 15) rfl ek) rfl rfl hl.1 rfl (lv_room (Nat.le_of_ble_eq_true rfl)) dX1_alloc_39 ⟨Nat.le_of_ble_eq_true rfl, Nat.le_of_ble_eq_true rfl⟩) hH (fun H locs hH => ?_)
  refine lv_icmp_ge (tgt := 70) hx hb dX1_alloc_42 (by decide) (fun c3 => ?_) (fun c3 => ?_)
  · rw [if_pos c3] at hf
    refine lv_aload_n hx hb dX1_alloc_70 rfl (lv_at hl 0 rfl) ?_
    replace hf := evn_b1 hf
    obtain ⟨q4, e4, hf⟩ := hf
    refine mm_getA F hH mc_1 (k := 2) (by decide) (hts _ q136) (fun _ h => h) e4 dX1_alloc_71 ?_
    refine lv_iload hx hb dX1_alloc_74 (lv_at hl 5 rfl) ?_
    refine lv_aload hx hb dX1_alloc_76 (lv_at hl 4 rfl) ?_
    replace hf := evn_b1 hf
    obtain ⟨u, e5, hf⟩ := hf
    obtain ⟨fs, ek⟩ := ck_i e5
    replace hf := evn_b1 hf
    obtain ⟨σ5, e6, hf⟩ := hf
    refine mm_cv (va_runV (As := [.int x5, .ref a4]) (rest := []) ⟨hx, hb, hml, hown, hts⟩ (m_J2_add l G q4 x5 a4 σ σ5 e6) (cwV 2 hts (lw_V q308 q309 q310 q66 q311) rfl rfl rfl (by decide +kernel) ⟨Nat.le_of_ble_eq_true rfl, Nat.le_of_ble_eq_true rfl⟩) (mm_preV F.2.2.2.2.2 hH (ci := 15) rfl ek) rfl rfl hl.1 rfl (lv_room (Nat.le_of_ble_eq_true rfl)) dX1_alloc_78 ⟨Nat.le_of_ble_eq_true rfl, Nat.le_of_ble_eq_true rfl⟩) hH (fun H locs hH => ?_)
    refine lv_iload_n hx hb dX1_alloc_81 rfl (lv_at hl 3 rfl) ?_
    refine lv_istore (lv' := [(6, .int x3), (0, .ref h0), (1, .int x1), (2, .int x2), (3, .int x3), (4, .ref a4), (5, .int x5)]) hx hb dX1_alloc_82 hl (by decide) rfl (fun ls hl => ?_)
    rw [evn_l] at hf
    exact IH84 x3 a4 x3 σ5 _ _ _ hH (lv_sub hl [1, 2, 3, 4, 5, 0] rfl) hf
  · rw [if_neg c3] at hf
    refine lv_aload_n hx hb dX1_alloc_45 rfl (lv_at hl 0 rfl) ?_
    replace hf := evn_b1 hf
    obtain ⟨q6, e7, hf⟩ := hf
    refine mm_getA F hH mc_1 (k := 2) (by decide) (hts _ q136) (fun _ h => h) e7 dX1_alloc_46 ?_
    refine lv_iload hx hb dX1_alloc_49 (lv_at hl 5 rfl) ?_
    replace hf := evn_b1 hf
    obtain ⟨u, e8, hf⟩ := hf
    obtain ⟨fs, ek⟩ := ck_i e8
    replace hf := evn_b1 hf
    obtain ⟨p7, e9, hf⟩ := hf
    refine mm_cq (va_runV (As := [.int x5]) (rest := []) ⟨hx, hb, hml, hown, hts⟩ (m_J2_get l G q6 x5 σ p7 e9) (cwV 1 hts (lw_V q294 q295 q296 q66 q297) rfl rfl rfl (by decide +kernel) ⟨Nat.le_of_ble_eq_true rfl, Nat.le_of_ble_eq_true rfl⟩) (mm_preV F.2.2.2.2.2 hH (ci := 15) rfl ek) rfl rfl hl.1 rfl (lv_room (Nat.le_of_ble_eq_true rfl)) dX1_alloc_51 ⟨Nat.le_of_ble_eq_true rfl, Nat.le_of_ble_eq_true rfl⟩) hH (fun H locs hH => ?_)
    replace hf := evn_b1 hf
    obtain ⟨q8, e10, hf⟩ := hf
    subst e10
    replace hf := evn_b1 hf
    obtain ⟨u, e11, hf⟩ := hf
    refine mm_cast F hH mc_3 (hts _ q130) e11 dX1_alloc_54 ?_
    replace hf := evn_b1 hf
    obtain ⟨v9, e12, hf⟩ := hf
    refine mm_getIN F hH mc_3 (k := 0) (by decide) q252 (fun _ h => h) e12 dX1_alloc_57 ?_
    refine lv_iload_n hx hb dX1_alloc_60 rfl (lv_at hl 3 rfl) ?_
    refine lv_icmp_ge (tgt := 70) hx hb dX1_alloc_61 (by decide) (fun c10 => ?_) (fun c10 => ?_)
    · rw [if_pos c10] at hf
      refine lv_aload_n hx hb dX1_alloc_70 rfl (lv_at hl 0 rfl) ?_
      replace hf := evn_b1 hf
      obtain ⟨q11, e13, hf⟩ := hf
      refine mm_getA F hH mc_1 (k := 2) (by decide) (hts _ q136) (fun _ h => h) e13 dX1_alloc_71 ?_
      refine lv_iload hx hb dX1_alloc_74 (lv_at hl 5 rfl) ?_
      refine lv_aload hx hb dX1_alloc_76 (lv_at hl 4 rfl) ?_
      replace hf := evn_b1 hf
      obtain ⟨u, e14, hf⟩ := hf
      obtain ⟨fs, ek⟩ := ck_i e14
      replace hf := evn_b1 hf
      obtain ⟨σ12, e15, hf⟩ := hf
      refine mm_cv (va_runV (As := [.int x5, .ref a4]) (rest := []) ⟨hx, hb, hml, hown, hts⟩ (m_J2_add l G q11 x5 a4 σ σ12 e15) (cwV 2 hts (lw_V q308 q309 q310 q66 q311) rfl rfl rfl (by decide +kernel) ⟨Nat.le_of_ble_eq_true rfl, Nat.le_of_ble_eq_true rfl⟩) (mm_preV F.2.2.2.2.2 hH (ci := 15) rfl ek) rfl rfl hl.1 rfl (lv_room (Nat.le_of_ble_eq_true rfl)) dX1_alloc_78 ⟨Nat.le_of_ble_eq_true rfl, Nat.le_of_ble_eq_true rfl⟩) hH (fun H locs hH => ?_)
      refine lv_iload_n hx hb dX1_alloc_81 rfl (lv_at hl 3 rfl) ?_
      refine lv_istore (lv' := [(6, .int x3), (0, .ref h0), (1, .int x1), (2, .int x2), (3, .int x3), (4, .ref a4), (5, .int x5)]) hx hb dX1_alloc_82 hl (by decide) rfl (fun ls hl => ?_)
      rw [evn_l] at hf
      exact IH84 x3 a4 x3 σ12 _ _ _ hH (lv_sub hl [1, 2, 3, 4, 5, 0] rfl) hf
    · rw [if_neg c10] at hf
      refine lv_iinc (v := x5 + (1 : Int32)) (lv' := [(5, .int (x5 + (1 : Int32))), (0, .ref h0), (1, .int x1), (2, .int x2), (3, .int x3), (4, .ref a4)]) hx hb dX1_alloc_64 hl (k := 5) rfl rfl (by decide) rfl (fun ls hl => ?_)
      refine lv_goto (tgt := 33) hx hb dX1_alloc_67 (by decide) ?_
      rw [evn_l] at hf
      exact IH33 x3 a4 (x5 + (1 : Int32)) σ _ _ _ hH (lv_sub hl [1, 2, 3, 4, 5, 0] rfl) hf
set_option maxHeartbeats 4000000 in
theorem w_X1_alloc_84 {p : Program} {l : Launch} {e : Env} {s : State} {m : MethodId} {av : Array Value} {below : List Frame} {meth : Method} {c : Code} {G : mm_G} {σf : mm_M} {rr : Int32} {n : Nat} {h0 : Nat} {x1 : Int32} {x2 : Int32} (F : mm_F p s m av c RX1 cX1_alloc 7 G) (hr : meth.sig.returnType = (Option.some .int)) (hlocks : meth.locks = false) (hname : meth.name = yX1_alloc.name) (IH33 : ∀ (x3 : Int32) (a4 : Nat) (x5 : Int32) (σ : mm_M) (H : Heap) (locs : List Loc) (ls : Array Slot), mm_H G s σ H locs → lv_has ls 7 [(0, .ref h0), (1, .int x1), (2, .int x2), (3, .int x3), (4, .ref a4), (5, .int x5)] → itn (s_X1_alloc h0 x1 x2) n (.inl (x3, a4, x5, σ)) = some (rr, σf) → W p l e rm_X1_alloc s m av below meth c H locs 3 18 (MQ below (mm_Qi G rr σf) av s 4 268 (mm_A G)) (F0 m 33 ls [])) (IH84 : ∀ (x3 : Int32) (a4 : Nat) (x6 : Int32) (σ : mm_M) (H : Heap) (locs : List Loc) (ls : Array Slot), mm_H G s σ H locs → lv_has ls 7 [(0, .ref h0), (1, .int x1), (2, .int x2), (3, .int x3), (4, .ref a4), (6, .int x6)] → itn (s_X1_alloc h0 x1 x2) n (.inr (x3, a4, x6, σ)) = some (rr, σf) → W p l e rm_X1_alloc s m av below meth c H locs 4 268 (MQ below (mm_Qi G rr σf) av s 4 268 (mm_A G)) (F0 m 84 ls []))  (x3 : Int32) (a4 : Nat) (x6 : Int32)  (σ : mm_M) (hf : evn (s_X1_alloc h0 x1 x2) n (g_X1_alloc_84 h0 x1 x2 x3 a4 x6 σ) = some (rr, σf)) {H : Heap} {locs : List Loc} {ls : Array Slot} (hH : mm_H G s σ H locs) (hl : lv_has ls 7 [(0, .ref h0), (1, .int x1), (2, .int x2), (3, .int x3), (4, .ref a4), (6, .int x6)]) : W p l e rm_X1_alloc s m av below meth c H locs 4 268 (MQ below (mm_Qi G rr σf) av s 4 268 (mm_A G)) (F0 m 84 ls []) := by
  have hx := F.1
  have hb := F.2.1
  have hml := F.2.2.1
  have hown := F.2.2.2.1
  have hts := F.2.2.2.2.1
  unfold g_X1_alloc_84 at hf
  refine lv_iload hx hb dX1_alloc_84 (lv_at hl 5 rfl) ?_
  refine lv_aload hx hb dX1_alloc_86 (lv_at hl 4 rfl) ?_
  replace hf := evn_b1 hf
  obtain ⟨u, e1, hf⟩ := hf
  obtain ⟨fs, ek⟩ := ck_i e1
  replace hf := evn_b1 hf
  obtain ⟨v1, e2, hf⟩ := hf
  refine mm_ci (va_runV (As := []) (rest := [.int x6]) ⟨hx, hb, hml, hown, hts⟩ (m_X3_end l G a4 σ v1 e2) (cwV 0 hts (lw_V q236 q237 q238 q68 q239) rfl rfl rfl (by decide +kernel) ⟨Nat.le_of_ble_eq_true rfl, Nat.le_of_ble_eq_true rfl⟩) (mm_preV F.2.2.2.2.2 hH (ci := 3) rfl ek) rfl rfl hl.1 rfl (lv_room (Nat.le_of_ble_eq_true rfl)) dX1_alloc_88 ⟨Nat.le_of_ble_eq_true rfl, Nat.le_of_ble_eq_true rfl⟩) hH (fun H locs hH => ?_)
  refine lv_icmp_ge (tgt := 109) hx hb dX1_alloc_91 (by decide) (fun c2 => ?_) (fun c2 => ?_)
  · rw [if_pos c2] at hf
    refine lv_aload_n hx hb dX1_alloc_109 rfl (lv_at hl 0 rfl) ?_
    refine lv_dup hx hb dX1_alloc_110 rfl ?_
    replace hf := evn_b1 hf
    obtain ⟨v3, e3, hf⟩ := hf
    refine mm_getI F hH mc_1 (k := 6) (by decide) (hts _ q148) (fun _ h => h) e3 dX1_alloc_111 ?_
    refine lv_iconst (v := 1) hx hb dX1_alloc_114 (by decide) ?_
    refine lv_iadd hx hb dX1_alloc_115 ?_
    replace hf := evn_b1 hf
    obtain ⟨σ4, e4, hf⟩ := hf
    refine mm_put F hH mc_1 (k := 6) (v := vI (v3 + (1 : Int32))) (by decide) (hts _ q148) (fun _ h => h) rfl rfl rfl e4 dX1_alloc_116 (fun H locs hH => ?_)
    refine lv_iload_n hx hb dX1_alloc_119 rfl (lv_at hl 3 rfl) ?_
    rw [evn_r] at hf
    obtain ⟨h1, h2⟩ := Prod.mk.inj (Option.some.inj hf)
    subst h1
    subst h2
    exact mm_reti F hH hr hlocks rfl rfl dX1_alloc_120
  · rw [if_neg c2] at hf
    refine lv_aload_n hx hb dX1_alloc_94 rfl (lv_at hl 0 rfl) ?_
    replace hf := evn_b1 hf
    obtain ⟨q5, e5, hf⟩ := hf
    refine mm_getA F hH mc_1 (k := 3) (by decide) (hts _ q140) (fun _ h => h) e5 dX1_alloc_95 ?_
    refine lv_iload hx hb dX1_alloc_98 (lv_at hl 5 rfl) ?_
    refine lv_aload hx hb dX1_alloc_100 (lv_at hl 4 rfl) ?_
    replace hf := evn_b1 hf
    obtain ⟨σ6, e6, hf⟩ := hf
    refine mm_aast F hH (k := 3) (by decide) e6 dX1_alloc_102 (fun H locs hH => ?_)
    refine lv_iinc (v := x6 + (1 : Int32)) (lv' := [(6, .int (x6 + (1 : Int32))), (0, .ref h0), (1, .int x1), (2, .int x2), (3, .int x3), (4, .ref a4)]) hx hb dX1_alloc_103 hl (k := 5) rfl rfl (by decide) rfl (fun ls hl => ?_)
    refine lv_goto (tgt := 84) hx hb dX1_alloc_106 (by decide) ?_
    rw [evn_l] at hf
    exact IH84 x3 a4 (x6 + (1 : Int32)) σ6 _ _ _ hH (lv_sub hl [1, 2, 3, 4, 5, 0] rfl) hf
set_option maxHeartbeats 4000000 in
theorem w_X1_alloc_0 {p : Program} {l : Launch} {e : Env} {s : State} {m : MethodId} {av : Array Value} {below : List Frame} {meth : Method} {c : Code} {G : mm_G} {σf : mm_M} {rr : Int32} {n : Nat} {h0 : Nat} {x1 : Int32} {x2 : Int32} (F : mm_F p s m av c RX1 cX1_alloc 7 G) (hr : meth.sig.returnType = (Option.some .int)) (hlocks : meth.locks = false) (hname : meth.name = yX1_alloc.name) (IH33 : ∀ (x3 : Int32) (a4 : Nat) (x5 : Int32) (σ : mm_M) (H : Heap) (locs : List Loc) (ls : Array Slot), mm_H G s σ H locs → lv_has ls 7 [(0, .ref h0), (1, .int x1), (2, .int x2), (3, .int x3), (4, .ref a4), (5, .int x5)] → itn (s_X1_alloc h0 x1 x2) n (.inl (x3, a4, x5, σ)) = some (rr, σf) → W p l e rm_X1_alloc s m av below meth c H locs 3 18 (MQ below (mm_Qi G rr σf) av s 4 268 (mm_A G)) (F0 m 33 ls [])) (IH84 : ∀ (x3 : Int32) (a4 : Nat) (x6 : Int32) (σ : mm_M) (H : Heap) (locs : List Loc) (ls : Array Slot), mm_H G s σ H locs → lv_has ls 7 [(0, .ref h0), (1, .int x1), (2, .int x2), (3, .int x3), (4, .ref a4), (6, .int x6)] → itn (s_X1_alloc h0 x1 x2) n (.inr (x3, a4, x6, σ)) = some (rr, σf) → W p l e rm_X1_alloc s m av below meth c H locs 4 268 (MQ below (mm_Qi G rr σf) av s 4 268 (mm_A G)) (F0 m 84 ls []))    (σ : mm_M) (hf : evn (s_X1_alloc h0 x1 x2) n (g_X1_alloc_0 h0 x1 x2 σ) = some (rr, σf)) {H : Heap} {locs : List Loc} {ls : Array Slot} (hH : mm_H G s σ H locs) (hl : lv_has ls 7 [(0, .ref h0), (1, .int x1), (2, .int x2)]) : W p l e rm_X1_alloc s m av below meth c H locs 0 0 (MQ below (mm_Qi G rr σf) av s 4 268 (mm_A G)) (F0 m 0 ls []) := by
  have hx := F.1
  have hb := F.2.1
  have hml := F.2.2.1
  have hown := F.2.2.2.1
  have hts := F.2.2.2.2.1
  unfold g_X1_alloc_0 at hf
  refine lv_aload_n hx hb dX1_alloc_0 rfl (lv_at hl 0 rfl) ?_
  refine lv_iconst (v := 1) hx hb dX1_alloc_1 (by decide) ?_
  refine lv_iload_n hx hb dX1_alloc_2 rfl (lv_at hl 1 rfl) ?_
  refine lv_iadd hx hb dX1_alloc_3 ?_
  refine lv_iload_n hx hb dX1_alloc_4 rfl (lv_at hl 2 rfl) ?_
  refine lv_iadd hx hb dX1_alloc_5 ?_
  replace hf := evn_b1 hf
  obtain ⟨u, e1, hf⟩ := hf
  obtain ⟨fs, ek⟩ := ck_i e1
  replace hf := evn_b1 hf
  obtain ⟨v1, e2, hf⟩ := hf
  refine mm_ci (va_runV (As := [.int (((1 : Int32) + x1) + x2)]) (rest := []) ⟨hx, hb, hml, hown, hts⟩ (m_X1_firstHole l G h0 (((1 : Int32) + x1) + x2) σ v1 e2) (cwV 1 hts (lw_V q228 q229 q230 q63 q231) rfl rfl rfl (by decide +kernel) ⟨Nat.le_of_ble_eq_true rfl, Nat.le_of_ble_eq_true rfl⟩) (mm_preV F.2.2.2.2.2 hH (ci := 1) rfl ek) rfl rfl hl.1 rfl (lv_room (Nat.le_of_ble_eq_true rfl)) dX1_alloc_6 ⟨Nat.le_of_ble_eq_true rfl, Nat.le_of_ble_eq_true rfl⟩) hH (fun H locs hH => ?_)
  refine lv_istore_n (lv' := [(3, .int v1), (0, .ref h0), (1, .int x1), (2, .int x2)]) hx hb dX1_alloc_9 rfl hl (by decide) rfl (fun ls hl => ?_)
  refine lv_iload_n hx hb dX1_alloc_10 rfl (lv_at hl 0 rfl) ?_
  refine lv_iconst (v := (-1)) hx hb dX1_alloc_11 (by decide) ?_
  refine lv_icmp_ne (tgt := 18) hx hb dX1_alloc_12 (by decide) (fun c2 => ?_) (fun c2 => ?_)
  · rw [if_neg c2] at hf
    replace hf := evn_b2 hf
    obtain ⟨q4, σ3, e3, hf⟩ := hf
    refine mm_new F hH mc_3 (hts _ q130) (hts _ q245) (hts _ q68) (Nat.le_of_ble_eq_true rfl) (Nat.le_of_ble_eq_true rfl) e3 dX1_alloc_18 (fun H hH => ?_)
    refine lv_dup hx hb dX1_alloc_21 rfl ?_
    refine lv_iload_n hx hb dX1_alloc_22 rfl (lv_at hl 0 rfl) ?_
    refine lv_iload_n hx hb dX1_alloc_23 rfl (lv_at hl 2 rfl) ?_
    refine lv_iload_n hx hb dX1_alloc_24 rfl (lv_at hl 3 rfl) ?_
    replace hf := evn_b1 hf
    obtain ⟨σ5, e4, hf⟩ := hf
    refine mm_cv (va_runI (As := [.int v1, .int x1, .int x2]) (rest := [.ref q4]) ⟨hx, hb, hml, hown, hts⟩ (m_X3_init l G q4 v1 x1 x2 σ3 σ5 e4) (cwI 3 hts (lw_meth q248) rfl rfl rfl (hts _ q68) (hts _ q246) (hts _ q247) rfl (by decide +kernel) ⟨Nat.le_of_ble_eq_true rfl, Nat.le_of_ble_eq_true rfl⟩) (mm_preS F.2.2.2.2.2 hH) rfl rfl hl.1 rfl (lv_room (Nat.le_of_ble_eq_true rfl)) dX1_alloc_25 ⟨Nat.le_of_ble_eq_true rfl, Nat.le_of_ble_eq_true rfl⟩) hH (fun H locs hH => ?_)
    refine lv_astore (lv' := [(4, .ref q4), (3, .int v1), (0, .ref h0), (1, .int x1), (2, .int x2)]) hx hb dX1_alloc_28 hl (by decide) rfl (fun ls hl => ?_)
    refine lv_iconst (v := 0) hx hb dX1_alloc_30 (by decide) ?_
    refine lv_istore (lv' := [(5, .int (0 : Int32)), (4, .ref q4), (3, .int v1), (0, .ref h0), (1, .int x1), (2, .int x2)]) hx hb dX1_alloc_31 hl (by decide) rfl (fun ls hl => ?_)
    rw [evn_l] at hf
    exact IH33 v1 q4 (0 : Int32) σ5 _ _ _ hH (lv_sub hl [3, 4, 5, 2, 1, 0] rfl) hf
  · rw [if_pos c2] at hf
    refine lv_ldc (v := (-1000004)) hx hb hown (hts _ q244) dX1_alloc_15 ?_
    rw [evn_r] at hf
    obtain ⟨h1, h2⟩ := Prod.mk.inj (Option.some.inj hf)
    subst h1
    subst h2
    refine W.widen (k := 4) (n := 268) (Nat.le_of_ble_eq_true rfl) (Nat.le_of_ble_eq_true rfl) ?_
    exact mm_reti F hH hr hlocks rfl rfl dX1_alloc_17
set_option maxHeartbeats 4000000 in
theorem l_X1_alloc {p : Program} {l : Launch} {e : Env} {s : State} {m : MethodId} {av : Array Value} {below : List Frame} {meth : Method} {c : Code} {G : mm_G} {σf : mm_M} {rr : Int32} {h0 : Nat} {x1 : Int32} {x2 : Int32} (F : mm_F p s m av c RX1 cX1_alloc 7 G) (hr : meth.sig.returnType = (Option.some .int)) (hlocks : meth.locks = false) (hname : meth.name = yX1_alloc.name) : ∀ n : Nat, (∀ (x3 : Int32) (a4 : Nat) (x5 : Int32) (σ : mm_M) (H : Heap) (locs : List Loc) (ls : Array Slot), mm_H G s σ H locs → lv_has ls 7 [(0, .ref h0), (1, .int x1), (2, .int x2), (3, .int x3), (4, .ref a4), (5, .int x5)] → itn (s_X1_alloc h0 x1 x2) n (.inl (x3, a4, x5, σ)) = some (rr, σf) → W p l e rm_X1_alloc s m av below meth c H locs 3 18 (MQ below (mm_Qi G rr σf) av s 4 268 (mm_A G)) (F0 m 33 ls [])) ∧ (∀ (x3 : Int32) (a4 : Nat) (x6 : Int32) (σ : mm_M) (H : Heap) (locs : List Loc) (ls : Array Slot), mm_H G s σ H locs → lv_has ls 7 [(0, .ref h0), (1, .int x1), (2, .int x2), (3, .int x3), (4, .ref a4), (6, .int x6)] → itn (s_X1_alloc h0 x1 x2) n (.inr (x3, a4, x6, σ)) = some (rr, σf) → W p l e rm_X1_alloc s m av below meth c H locs 4 268 (MQ below (mm_Qi G rr σf) av s 4 268 (mm_A G)) (F0 m 84 ls [])) := by
  intro n
  induction n with
  | zero =>
    exact ⟨fun x3 a4 x5 σ H locs ls hH hl hf => (by cases hf), fun x3 a4 x6 σ H locs ls hH hl hf => (by cases hf)⟩
  | succ n ih =>
    obtain ⟨IH33, IH84⟩ := ih
    refine ⟨?_, ?_⟩
    · intro x3 a4 x5 σ H locs ls hH hl hf
      rw [itn_s] at hf
      exact w_X1_alloc_33 F hr hlocks hname IH33 IH84 x3 a4 x5 σ hf hH hl
    · intro x3 a4 x6 σ H locs ls hH hl hf
      rw [itn_s] at hf
      exact w_X1_alloc_84 F hr hlocks hname IH33 IH84 x3 a4 x6 σ hf hH hl
set_option maxHeartbeats 4000000 in
theorem m_X1_alloc (l : Launch) (G : mm_G) (h0 : Nat) (x1 : Int32) (x2 : Int32) (σ : mm_M) (σf : mm_M) (rr : Int32) (hf : f_X1_alloc h0 x1 x2 σ = some (rr, σf)) : Met l yX1_alloc (ws_ yX1_alloc cX1_alloc 7 ((Option.some .int))) rm_X1_alloc (mm_Pc G [.ref h0, .int x1, .int x2] σ) (mm_Qi G rr σf) 4 268 (mm_A G) := by
  refine mm_met (by decide) rfl rfl (by  exact Nat.le_of_ble_eq_true rfl) (fun p e s m below meth c ls F hH hr hlocks hname hl => ?_)
  have hl : lv_has ls 7 [(0, .ref h0), (1, .int x1), (2, .int x2)] := by  exact hl
  have F : mm_F p s m _ c RX1 cX1_alloc 7 G := F
  unfold f_X1_alloc at hf
  obtain ⟨n, hf⟩ := lgo_i hf
  have IH := l_X1_alloc (l := l) (e := e) (below := below) (rr := rr) (σf := σf) (h0 := h0) (x1 := x1) (x2 := x2) F hr hlocks hname n
  exact w_X1_alloc_0 F hr hlocks hname IH.1 IH.2 σ hf hH (lv_sub hl [0, 1, 2] rfl)
/-! IslandHeap.alloc(II)I -/
abbrev rm_X0_alloc : Room := { frames := 7, cells := 4, slots := 268, locals := 167 }
set_option maxHeartbeats 4000000 in
theorem m_X0_alloc (l : Launch) (G : mm_G) (h0 : Nat) (x1 : Int32) (x2 : Int32) (σ : mm_M) (σf : mm_M) (rr : Int32) (hf : f_X0_alloc h0 x1 x2 σ = some (rr, σf)) : Met l yX0_alloc (ws_ yX0_alloc cX0_alloc 3 ((Option.some .int))) rm_X0_alloc (mm_Pc G [.ref h0, .int x1, .int x2] σ) (mm_Qi G rr σf) 4 268 (mm_A G) := by
  refine mm_met (by decide) rfl rfl (by  exact Nat.le_of_ble_eq_true rfl) (fun p e s m below meth c ls F hH hr hlocks hname hl => ?_)
  have hl : lv_has ls 3 [(0, .ref h0), (1, .int x1), (2, .int x2)] := by  exact hl
  have F : mm_F p s m _ c RX0 cX0_alloc 3 G := F
  have hx := F.1
  have hb := F.2.1
  have hml := F.2.2.1
  have hown := F.2.2.2.1
  have hts := F.2.2.2.2.1
  unfold f_X0_alloc at hf
  refine lv_iload_n hx hb dX0_alloc_0 rfl (lv_at hl 1 rfl) ?_
  refine lv_iconst (v := 0) hx hb dX0_alloc_1 (by decide) ?_
  refine lv_bipush (v := 6) hx hb dX0_alloc_2 (by decide) ?_
  replace hf := b1_i hf
  obtain ⟨v1, e1, hf⟩ := hf
  refine mm_ci (va_runS (As := [.int x1, .int (0 : Int32), .int (6 : Int32)]) (rest := []) ⟨hx, hb, hml, hown, hts⟩ (m_X0_isIn l G x1 (0 : Int32) (6 : Int32) σ v1 e1) (va_cwS 3 hts (lw_S q216 q217 q62 q218) rfl rfl rfl (by decide +kernel) ⟨Nat.le_of_ble_eq_true rfl, Nat.le_of_ble_eq_true rfl⟩) (mm_preS F.2.2.2.2.2 hH) rfl rfl hl.1 rfl (lv_room (Nat.le_of_ble_eq_true rfl)) dX0_alloc_4 ⟨Nat.le_of_ble_eq_true rfl, Nat.le_of_ble_eq_true rfl⟩) hH (fun H locs hH => ?_)
  refine lv_if_eq (tgt := 32) hx hb dX0_alloc_7 (by decide) (fun c2 => ?_) (fun c2 => ?_)
  · rw [if_pos c2] at hf
    refine lv_ldc (v := (-1000002)) hx hb hown (hts _ q219) dX0_alloc_32 ?_
    obtain ⟨h1, h2⟩ := Prod.mk.inj (Option.some.inj hf)
    subst h1
    subst h2
    refine W.widen (k := 4) (n := 268) (Nat.le_of_ble_eq_true rfl) (Nat.le_of_ble_eq_true rfl) ?_
    exact mm_reti F hH hr hlocks rfl rfl dX0_alloc_34
  · rw [if_neg c2] at hf
    refine lv_iload_n hx hb dX0_alloc_10 rfl (lv_at hl 2 rfl) ?_
    refine lv_iconst (v := 0) hx hb dX0_alloc_11 (by decide) ?_
    refine lv_bipush (v := 6) hx hb dX0_alloc_12 (by decide) ?_
    replace hf := b1_i hf
    obtain ⟨v3, e2, hf⟩ := hf
    refine mm_ci (va_runS (As := [.int x2, .int (0 : Int32), .int (6 : Int32)]) (rest := []) ⟨hx, hb, hml, hown, hts⟩ (m_X0_isIn l G x2 (0 : Int32) (6 : Int32) σ v3 e2) (va_cwS 3 hts (lw_S q216 q217 q62 q218) rfl rfl rfl (by decide +kernel) ⟨Nat.le_of_ble_eq_true rfl, Nat.le_of_ble_eq_true rfl⟩) (mm_preS F.2.2.2.2.2 hH) rfl rfl hl.1 rfl (lv_room (Nat.le_of_ble_eq_true rfl)) dX0_alloc_14 ⟨Nat.le_of_ble_eq_true rfl, Nat.le_of_ble_eq_true rfl⟩) hH (fun H locs hH => ?_)
    refine lv_if_eq (tgt := 32) hx hb dX0_alloc_17 (by decide) (fun c4 => ?_) (fun c4 => ?_)
    · rw [if_pos c4] at hf
      refine lv_ldc (v := (-1000002)) hx hb hown (hts _ q219) dX0_alloc_32 ?_
      obtain ⟨h1, h2⟩ := Prod.mk.inj (Option.some.inj hf)
      subst h1
      subst h2
      refine W.widen (k := 4) (n := 268) (Nat.le_of_ble_eq_true rfl) (Nat.le_of_ble_eq_true rfl) ?_
      exact mm_reti F hH hr hlocks rfl rfl dX0_alloc_34
    · rw [if_neg c4] at hf
      refine lv_aload_n hx hb dX0_alloc_20 rfl (lv_at hl 0 rfl) ?_
      replace hf := b1_i hf
      obtain ⟨q5, e3, hf⟩ := hf
      refine mm_getA F hH mc_0 (k := 0) (by decide) (hts _ q185) (fun _ h => h) e3 dX0_alloc_21 ?_
      refine lv_iload_n hx hb dX0_alloc_24 rfl (lv_at hl 1 rfl) ?_
      refine lv_iload_n hx hb dX0_alloc_25 rfl (lv_at hl 2 rfl) ?_
      replace hf := b1_i hf
      obtain ⟨u, e4, hf⟩ := hf
      obtain ⟨fs, ek⟩ := ck_i e4
      replace hf := b2_i hf
      obtain ⟨v6, σ7, e5, hf⟩ := hf
      refine mm_ci (va_runV (As := [.int x1, .int x2]) (rest := []) ⟨hx, hb, hml, hown, hts⟩ (m_X1_alloc l G q5 x1 x2 σ σ7 v6 e5) (cwV 2 hts (lw_V q224 q225 q226 q63 q227) rfl rfl rfl (by decide +kernel) ⟨Nat.le_of_ble_eq_true rfl, Nat.le_of_ble_eq_true rfl⟩) (mm_preV F.2.2.2.2.2 hH (ci := 1) rfl ek) rfl rfl hl.1 rfl (lv_room (Nat.le_of_ble_eq_true rfl)) dX0_alloc_26 ⟨Nat.le_of_ble_eq_true rfl, Nat.le_of_ble_eq_true rfl⟩) hH (fun H locs hH => ?_)
      refine lv_goto (tgt := 34) hx hb dX0_alloc_29 (by decide) ?_
      obtain ⟨h1, h2⟩ := Prod.mk.inj (Option.some.inj hf)
      subst h1
      subst h2
      exact mm_reti F hH hr hlocks rfl rfl dX0_alloc_34
/-! IslandHeap$Heap.isWord(I)Z -/
abbrev rm_X1_isWord : Room := { frames := 1, cells := 0, slots := 0, locals := 22 }
set_option maxHeartbeats 4000000 in
theorem m_X1_isWord (l : Launch) (G : mm_G) (h0 : Nat) (x1 : Int32) (σ : mm_M) (rr : Int32) (hf : f_X1_isWord h0 x1 σ = some rr) : Met l yX1_isWord (ws_ yX1_isWord cX1_isWord 2 ((Option.some .boolean))) rm_X1_isWord (mm_Pc G [.ref h0, .int x1] σ) (mm_Qi G rr σ) 0 0 (mm_A G) := by
  refine mm_met (by decide) rfl rfl (by  exact Nat.le_of_ble_eq_true rfl) (fun p e s m below meth c ls F hH hr hlocks hname hl => ?_)
  have hl : lv_has ls 2 [(0, .ref h0), (1, .int x1)] := by  exact hl
  have F : mm_F p s m _ c RX1 cX1_isWord 2 G := F
  have hx := F.1
  have hb := F.2.1
  have hml := F.2.2.1
  have hown := F.2.2.2.1
  have hts := F.2.2.2.2.1
  unfold f_X1_isWord at hf
  refine lv_iload_n hx hb dX1_isWord_0 rfl (lv_at hl 1 rfl) ?_
  refine lv_iconst (v := 0) hx hb dX1_isWord_1 (by decide) ?_
  refine lv_aload_n hx hb dX1_isWord_2 rfl (lv_at hl 0 rfl) ?_
  replace hf := b1_i hf
  obtain ⟨v1, e1, hf⟩ := hf
  refine mm_getI F hH mc_1 (k := 0) (by decide) (hts _ q132) (fun _ h => h) e1 dX1_isWord_3 ?_
  refine lv_iconst (v := 1) hx hb dX1_isWord_6 (by decide) ?_
  refine lv_isub hx hb dX1_isWord_7 ?_
  replace hf := b1_i hf
  obtain ⟨v2, e2, hf⟩ := hf
  refine mm_ci (va_runSN (As := [.int x1, .int (0 : Int32), .int (v1 - (1 : Int32))]) (rest := []) ⟨hx, hb, hml, hown, hts⟩ (m_X0_isIn l G x1 (0 : Int32) (v1 - (1 : Int32)) σ v2 e2) ⟨(va_cnB 3 hts (lw_meth q218) rfl rfl rfl (F.2.2.2.2.2.2.1 _ q392 rfl) (hts _ q62) (by decide +kernel) ⟨Nat.le_of_ble_eq_true rfl, Nat.le_of_ble_eq_true rfl⟩), hts _ q217, trivial⟩ (mm_preS F.2.2.2.2.2 hH) rfl rfl hl.1 rfl (lv_room (Nat.le_of_ble_eq_true rfl)) dX1_isWord_8 ⟨Nat.le_of_ble_eq_true rfl, Nat.le_of_ble_eq_true rfl⟩) hH (fun H locs hH => ?_)
  replace hf := b1_i hf
  obtain ⟨u, e3, hf⟩ := hf
  have hz := grd_i e3
  have h1 := Option.some.inj hf
  subst h1
  exact mm_reti F hH hr hlocks (by rcases hz with h | h <;> rw [h] <;> rfl) rfl dX1_isWord_11
/-! IslandHeap$Heap.at(I)LIslandHeap$Thing; -/
abbrev rm_X1_at : Room := { frames := 2, cells := 0, slots := 0, locals := 43 }
set_option maxHeartbeats 4000000 in
theorem m_X1_at (l : Launch) (G : mm_G) (h0 : Nat) (x1 : Int32) (σ : mm_M) (rr : Option Nat) (hf : f_X1_at h0 x1 σ = some rr) : Met l yX1_at (ws_ yX1_at cX1_at 2 ((Option.some (.object "IslandHeap$Thing")))) rm_X1_at (mm_Pc G [.ref h0, .int x1] σ) (mm_Qq G rr σ) 0 0 (mm_A G) := by
  refine mm_met (by decide) rfl rfl (by  exact Nat.le_of_ble_eq_true rfl) (fun p e s m below meth c ls F hH hr hlocks hname hl => ?_)
  have hl : lv_has ls 2 [(0, .ref h0), (1, .int x1)] := by  exact hl
  have F : mm_F p s m _ c RX1 cX1_at 2 G := F
  have hx := F.1
  have hb := F.2.1
  have hml := F.2.2.1
  have hown := F.2.2.2.1
  have hts := F.2.2.2.2.1
  unfold f_X1_at at hf
  refine lv_aload_n hx hb dX1_at_0 rfl (lv_at hl 0 rfl) ?_
  refine lv_iload_n hx hb dX1_at_1 rfl (lv_at hl 1 rfl) ?_
  replace hf := b1_i hf
  obtain ⟨u, e1, hf⟩ := hf
  obtain ⟨fs, ek⟩ := ck_i e1
  replace hf := b1_i hf
  obtain ⟨v1, e2, hf⟩ := hf
  refine mm_ci (va_runV (As := [.int x1]) (rest := []) ⟨hx, hb, hml, hown, hts⟩ (m_X1_isWord l G h0 x1 σ v1 e2) (cwV 1 hts (lw_V q388 q389 q390 q63 q391) rfl rfl rfl (by decide +kernel) ⟨Nat.le_of_ble_eq_true rfl, Nat.le_of_ble_eq_true rfl⟩) (mm_preV F.2.2.2.2.2 hH (ci := 1) rfl ek) rfl rfl hl.1 rfl (lv_room (Nat.le_of_ble_eq_true rfl)) dX1_at_2 ⟨Nat.le_of_ble_eq_true rfl, Nat.le_of_ble_eq_true rfl⟩) hH (fun H locs hH => ?_)
  refine lv_if_eq (tgt := 17) hx hb dX1_at_5 (by decide) (fun c2 => ?_) (fun c2 => ?_)
  · rw [if_pos c2] at hf
    refine lv_null hx hb dX1_at_17 ?_
    have h1 := Option.some.inj hf
    subst h1
    exact mm_retq (v := none) F hH hr hlocks (Or.inl ⟨_, rfl⟩) rfl dX1_at_18
  · rw [if_neg c2] at hf
    refine lv_aload_n hx hb dX1_at_8 rfl (lv_at hl 0 rfl) ?_
    replace hf := b1_i hf
    obtain ⟨q3, e3, hf⟩ := hf
    refine mm_getA F hH mc_1 (k := 3) (by decide) (hts _ q140) (fun _ h => h) e3 dX1_at_9 ?_
    refine lv_iload_n hx hb dX1_at_12 rfl (lv_at hl 1 rfl) ?_
    replace hf := b1_i hf
    obtain ⟨p4, e4, hf⟩ := hf
    refine mm_aald F hH (k := 3) (by decide) e4 dX1_at_13 ?_
    refine lv_goto (tgt := 18) hx hb dX1_at_14 (by decide) ?_
    have h1 := Option.some.inj hf
    subst h1
    exact mm_retq (v := p4) F hH hr hlocks (Or.inl ⟨_, rfl⟩) rfl dX1_at_18
/-! IslandHeap.part(I)LIslandHeap$Part; -/
abbrev rm_X0_part : Room := { frames := 0, cells := 0, slots := 0, locals := 0 }
set_option maxHeartbeats 4000000 in
theorem m_X0_part (l : Launch) (G : mm_G) (x0 : Int32) (σ : mm_M) (rr : Nat) (hf : f_X0_part x0 σ = some rr) : Met l yX0_part (ws_ yX0_part cX0_part 1 ((Option.some (.object "IslandHeap$Part")))) rm_X0_part (mm_Pc G [.int x0] σ) (mm_Qq G (some (G.2.2.1 rr)) σ) 0 0 (mm_A G) := by
  refine mm_met (by decide) rfl rfl (by  exact Nat.le_of_ble_eq_true rfl) (fun p e s m below meth c ls F hH hr hlocks hname hl => ?_)
  have hl : lv_has ls 1 [(0, .int x0)] := by  exact hl
  have F : mm_F p s m _ c RX0 cX0_part 1 G := F
  have hx := F.1
  have hb := F.2.1
  have hml := F.2.2.1
  have hown := F.2.2.2.1
  have hts := F.2.2.2.2.1
  unfold f_X0_part at hf
  refine lv_iload_n hx hb dX0_part_0 rfl (lv_at hl 0 rfl) ?_
  by_cases c1 : x0 = (0 : Int32)
  · rw [if_pos c1] at hf
    refine lv_tableIn (off := 43) (tgt := 44) hx hb dX0_part_1 (by rw [c1]; decide) (by rw [c1]; decide) (by rw [c1]; rfl) (by decide) ?_
    refine va_gets hx hb (F.2.2.2.2.2.2.2.2.1.1 0 (by decide)).1 hH.2 hown (hts _ q396) (fun _ h => h) dX0_part_44 ?_
    have h1 := Option.some.inj hf
    subst h1
    exact mm_retq (v := some (G.2.2.1 0)) F hH hr hlocks (Or.inl ⟨_, rfl⟩) rfl dX0_part_47
  · rw [if_neg c1] at hf
    by_cases c2 : x0 = (1 : Int32)
    · rw [if_pos c2] at hf
      refine lv_tableIn (off := 47) (tgt := 48) hx hb dX0_part_1 (by rw [c2]; decide) (by rw [c2]; decide) (by rw [c2]; rfl) (by decide) ?_
      refine va_gets hx hb (F.2.2.2.2.2.2.2.2.1.1 1 (by decide)).1 hH.2 hown (hts _ q398) (fun _ h => h) dX0_part_48 ?_
      have h1 := Option.some.inj hf
      subst h1
      exact mm_retq (v := some (G.2.2.1 1)) F hH hr hlocks (Or.inl ⟨_, rfl⟩) rfl dX0_part_51
    · rw [if_neg c2] at hf
      by_cases c3 : x0 = (2 : Int32)
      · rw [if_pos c3] at hf
        refine lv_tableIn (off := 51) (tgt := 52) hx hb dX0_part_1 (by rw [c3]; decide) (by rw [c3]; decide) (by rw [c3]; rfl) (by decide) ?_
        refine va_gets hx hb (F.2.2.2.2.2.2.2.2.1.1 2 (by decide)).1 hH.2 hown (hts _ q400) (fun _ h => h) dX0_part_52 ?_
        have h1 := Option.some.inj hf
        subst h1
        exact mm_retq (v := some (G.2.2.1 2)) F hH hr hlocks (Or.inl ⟨_, rfl⟩) rfl dX0_part_55
      · rw [if_neg c3] at hf
        by_cases c4 : x0 = (3 : Int32)
        · rw [if_pos c4] at hf
          refine lv_tableIn (off := 55) (tgt := 56) hx hb dX0_part_1 (by rw [c4]; decide) (by rw [c4]; decide) (by rw [c4]; rfl) (by decide) ?_
          refine va_gets hx hb (F.2.2.2.2.2.2.2.2.1.1 3 (by decide)).1 hH.2 hown (hts _ q402) (fun _ h => h) dX0_part_56 ?_
          have h1 := Option.some.inj hf
          subst h1
          exact mm_retq (v := some (G.2.2.1 3)) F hH hr hlocks (Or.inl ⟨_, rfl⟩) rfl dX0_part_59
        · rw [if_neg c4] at hf
          by_cases c5 : x0 = (4 : Int32)
          · rw [if_pos c5] at hf
            refine lv_tableIn (off := 59) (tgt := 60) hx hb dX0_part_1 (by rw [c5]; decide) (by rw [c5]; decide) (by rw [c5]; rfl) (by decide) ?_
            refine va_gets hx hb (F.2.2.2.2.2.2.2.2.1.1 4 (by decide)).1 hH.2 hown (hts _ q404) (fun _ h => h) dX0_part_60 ?_
            have h1 := Option.some.inj hf
            subst h1
            exact mm_retq (v := some (G.2.2.1 4)) F hH hr hlocks (Or.inl ⟨_, rfl⟩) rfl dX0_part_63
          · rw [if_neg c5] at hf
            by_cases c6 : x0 = (5 : Int32)
            · rw [if_pos c6] at hf
              refine lv_tableIn (off := 63) (tgt := 64) hx hb dX0_part_1 (by rw [c6]; decide) (by rw [c6]; decide) (by rw [c6]; rfl) (by decide) ?_
              refine va_gets hx hb (F.2.2.2.2.2.2.2.2.1.1 5 (by decide)).1 hH.2 hown (hts _ q406) (fun _ h => h) dX0_part_64 ?_
              have h1 := Option.some.inj hf
              subst h1
              exact mm_retq (v := some (G.2.2.1 5)) F hH hr hlocks (Or.inl ⟨_, rfl⟩) rfl dX0_part_67
            · rw [if_neg c6] at hf
              by_cases c7 : x0 = (6 : Int32)
              · rw [if_pos c7] at hf
                refine lv_tableIn (off := 67) (tgt := 68) hx hb dX0_part_1 (by rw [c7]; decide) (by rw [c7]; decide) (by rw [c7]; rfl) (by decide) ?_
                refine va_gets hx hb (F.2.2.2.2.2.2.2.2.1.1 6 (by decide)).1 hH.2 hown (hts _ q408) (fun _ h => h) dX0_part_68 ?_
                have h1 := Option.some.inj hf
                subst h1
                exact mm_retq (v := some (G.2.2.1 6)) F hH hr hlocks (Or.inl ⟨_, rfl⟩) rfl dX0_part_71
              · rw [if_neg c7] at hf
                refine lv_tableOut (tgt := 72) hx hb dX0_part_1 (by have h0 := lv_neT c1 (a := 0) rfl; have h1 := lv_neT c2 (a := 1) rfl; have h2 := lv_neT c3 (a := 2) rfl; have h3 := lv_neT c4 (a := 3) rfl; have h4 := lv_neT c5 (a := 4) rfl; have h5 := lv_neT c6 (a := 5) rfl; have h6 := lv_neT c7 (a := 6) rfl; omega) (by decide) ?_
                refine va_gets hx hb (F.2.2.2.2.2.2.2.2.1.1 7 (by decide)).1 hH.2 hown (hts _ q410) (fun _ h => h) dX0_part_72 ?_
                have h1 := Option.some.inj hf
                subst h1
                exact mm_retq (v := some (G.2.2.1 7)) F hH hr hlocks (Or.inl ⟨_, rfl⟩) rfl dX0_part_75
/-! IslandHeap$Part$1.of(LIslandHeap;LIslandHeap$Thing;)I -/
abbrev rm_X16_of : Room := { frames := 0, cells := 0, slots := 0, locals := 0 }
set_option maxHeartbeats 4000000 in
theorem m_X16_of (l : Launch) (G : mm_G) (a1 : Nat) (a2 : Nat) (σ : mm_M) (rr : Int32) (hf : f_X16_of a1 a2 σ = some rr) : mm_MetU l yX16_of (ws_ yX16_of cX16_of 3 ((Option.some .int))) rm_X16_of (mm_Pc G [.ref (G.2.2.1 0), .ref a1, .ref a2] σ) (mm_Qi G rr σ) 0 0 (mm_A G) := by
  refine mm_metU (by decide) rfl rfl (by  exact Nat.le_of_ble_eq_true rfl) (fun p e s m below meth c ls F hH hr hlocks hname hl => ?_)
  have hl : lv_has ls 3 [(0, .ref (G.2.2.1 0)), (1, .ref a1), (2, .ref a2)] := by  exact hl
  have F : mm_F p s m _ c RX16 cX16_of 3 G := F
  have hx := F.1
  have hb := F.2.1
  have hml := F.2.2.1
  have hown := F.2.2.2.1
  have hts := F.2.2.2.2.1
  unfold f_X16_of at hf
  refine lv_aload_n hx hb dX16_of_0 rfl (lv_at hl 2 rfl) ?_
  replace hf := b1_i hf
  obtain ⟨v1, e1, hf⟩ := hf
  refine mm_getIN F hH mc_3 (k := 0) (by decide) q251 (fun _ h => h) e1 dX16_of_1 ?_
  have h1 := Option.some.inj hf
  subst h1
  exact mm_reti F hH hr hlocks rfl rfl dX16_of_4
/-! IslandHeap$Part$2.of(LIslandHeap;LIslandHeap$Thing;)I -/
abbrev rm_X22_of : Room := { frames := 1, cells := 0, slots := 0, locals := 20 }
set_option maxHeartbeats 4000000 in
theorem m_X22_of (l : Launch) (G : mm_G) (a1 : Nat) (a2 : Nat) (σ : mm_M) (rr : Int32) (hf : f_X22_of a1 a2 σ = some rr) : mm_MetU l yX22_of (ws_ yX22_of cX22_of 3 ((Option.some .int))) rm_X22_of (mm_Pc G [.ref (G.2.2.1 1), .ref a1, .ref a2] σ) (mm_Qi G rr σ) 0 0 (mm_A G) := by
  refine mm_metU (by decide) rfl rfl (by  exact Nat.le_of_ble_eq_true rfl) (fun p e s m below meth c ls F hH hr hlocks hname hl => ?_)
  have hl : lv_has ls 3 [(0, .ref (G.2.2.1 1)), (1, .ref a1), (2, .ref a2)] := by  exact hl
  have F : mm_F p s m _ c RX22 cX22_of 3 G := F
  have hx := F.1
  have hb := F.2.1
  have hml := F.2.2.1
  have hown := F.2.2.2.1
  have hts := F.2.2.2.2.1
  unfold f_X22_of at hf
  refine lv_aload_n hx hb dX22_of_0 rfl (lv_at hl 2 rfl) ?_
  replace hf := b1_i hf
  obtain ⟨u, e1, hf⟩ := hf
  obtain ⟨fs, ek⟩ := ck_i e1
  replace hf := b1_i hf
  obtain ⟨v1, e2, hf⟩ := hf
  refine mm_ci (va_runV (As := []) (rest := []) ⟨hx, hb, hml, hown, hts⟩ (m_X3_size l G a2 σ v1 e2) (cwV 0 hts (lw_V q421 q241 q242 q68 q243) rfl rfl rfl (by decide +kernel) ⟨Nat.le_of_ble_eq_true rfl, Nat.le_of_ble_eq_true rfl⟩) (mm_preV F.2.2.2.2.2 hH (ci := 3) rfl ek) rfl rfl hl.1 rfl (lv_room (Nat.le_of_ble_eq_true rfl)) dX22_of_1 ⟨Nat.le_of_ble_eq_true rfl, Nat.le_of_ble_eq_true rfl⟩) hH (fun H locs hH => ?_)
  have h1 := Option.some.inj hf
  subst h1
  exact mm_reti F hH hr hlocks rfl rfl dX22_of_4
/-! IslandHeap$Part$3.of(LIslandHeap;LIslandHeap$Thing;)I -/
abbrev rm_X17_of : Room := { frames := 0, cells := 0, slots := 0, locals := 0 }
set_option maxHeartbeats 4000000 in
theorem m_X17_of (l : Launch) (G : mm_G) (a1 : Nat) (a2 : Nat) (σ : mm_M) (rr : Int32) (hf : f_X17_of a1 a2 σ = some rr) : mm_MetU l yX17_of (ws_ yX17_of cX17_of 3 ((Option.some .int))) rm_X17_of (mm_Pc G [.ref (G.2.2.1 2), .ref a1, .ref a2] σ) (mm_Qi G rr σ) 0 0 (mm_A G) := by
  refine mm_metU (by decide) rfl rfl (by  exact Nat.le_of_ble_eq_true rfl) (fun p e s m below meth c ls F hH hr hlocks hname hl => ?_)
  have hl : lv_has ls 3 [(0, .ref (G.2.2.1 2)), (1, .ref a1), (2, .ref a2)] := by  exact hl
  have F : mm_F p s m _ c RX17 cX17_of 3 G := F
  have hx := F.1
  have hb := F.2.1
  have hml := F.2.2.1
  have hown := F.2.2.2.1
  have hts := F.2.2.2.2.1
  unfold f_X17_of at hf
  refine lv_aload_n hx hb dX17_of_0 rfl (lv_at hl 2 rfl) ?_
  replace hf := b1_i hf
  obtain ⟨q1, e1, hf⟩ := hf
  refine mm_getAN F hH mc_3 (k := 1) (by decide) q255 (fun _ h => h) e1 dX17_of_1 ?_
  replace hf := b1_i hf
  obtain ⟨v2, e2, hf⟩ := hf
  refine mm_alen F hH e2 dX17_of_4 ?_
  have h1 := Option.some.inj hf
  subst h1
  exact mm_reti F hH hr hlocks rfl rfl dX17_of_5
/-! IslandHeap$Part$4.of(LIslandHeap;LIslandHeap$Thing;)I -/
abbrev rm_X18_of : Room := { frames := 0, cells := 0, slots := 0, locals := 0 }
set_option maxHeartbeats 4000000 in
theorem m_X18_of (l : Launch) (G : mm_G) (a1 : Nat) (a2 : Nat) (σ : mm_M) (rr : Int32) (hf : f_X18_of a1 a2 σ = some rr) : mm_MetU l yX18_of (ws_ yX18_of cX18_of 3 ((Option.some .int))) rm_X18_of (mm_Pc G [.ref (G.2.2.1 3), .ref a1, .ref a2] σ) (mm_Qi G rr σ) 0 0 (mm_A G) := by
  refine mm_metU (by decide) rfl rfl (by  exact Nat.le_of_ble_eq_true rfl) (fun p e s m below meth c ls F hH hr hlocks hname hl => ?_)
  have hl : lv_has ls 3 [(0, .ref (G.2.2.1 3)), (1, .ref a1), (2, .ref a2)] := by  exact hl
  have F : mm_F p s m _ c RX18 cX18_of 3 G := F
  have hx := F.1
  have hb := F.2.1
  have hml := F.2.2.1
  have hown := F.2.2.2.1
  have hts := F.2.2.2.2.1
  unfold f_X18_of at hf
  refine lv_aload_n hx hb dX18_of_0 rfl (lv_at hl 2 rfl) ?_
  replace hf := b1_i hf
  obtain ⟨q1, e1, hf⟩ := hf
  refine mm_getAN F hH mc_3 (k := 2) (by decide) q261 (fun _ h => h) e1 dX18_of_1 ?_
  replace hf := b1_i hf
  obtain ⟨v2, e2, hf⟩ := hf
  refine mm_alen F hH e2 dX18_of_4 ?_
  have h1 := Option.some.inj hf
  subst h1
  exact mm_reti F hH hr hlocks rfl rfl dX18_of_5
/-! IslandHeap$Part$5.of(LIslandHeap;LIslandHeap$Thing;)I -/
abbrev rm_X19_of : Room := { frames := 0, cells := 0, slots := 0, locals := 0 }
set_option maxHeartbeats 4000000 in
theorem m_X19_of (l : Launch) (G : mm_G) (a1 : Nat) (a2 : Nat) (σ : mm_M) (rr : Int32) (hf : f_X19_of a1 a2 σ = some rr) : mm_MetU l yX19_of (ws_ yX19_of cX19_of 3 ((Option.some .int))) rm_X19_of (mm_Pc G [.ref (G.2.2.1 4), .ref a1, .ref a2] σ) (mm_Qi G rr σ) 0 0 (mm_A G) := by
  refine mm_metU (by decide) rfl rfl (by  exact Nat.le_of_ble_eq_true rfl) (fun p e s m below meth c ls F hH hr hlocks hname hl => ?_)
  have hl : lv_has ls 3 [(0, .ref (G.2.2.1 4)), (1, .ref a1), (2, .ref a2)] := by  exact hl
  have F : mm_F p s m _ c RX19 cX19_of 3 G := F
  have hx := F.1
  have hb := F.2.1
  have hml := F.2.2.1
  have hown := F.2.2.2.1
  have hts := F.2.2.2.2.1
  unfold f_X19_of at hf
  refine lv_aload_n hx hb dX19_of_0 rfl (lv_at hl 2 rfl) ?_
  replace hf := b1_i hf
  obtain ⟨v1, e1, hf⟩ := hf
  refine mm_getIN F hH mc_3 (k := 3) (by decide) q263 (fun _ h => h) e1 dX19_of_1 ?_
  refine lv_if_eq (tgt := 11) hx hb dX19_of_4 (by decide) (fun c2 => ?_) (fun c2 => ?_)
  · rw [if_pos c2] at hf
    refine lv_iconst (v := 0) hx hb dX19_of_11 (by decide) ?_
    have h1 := Option.some.inj hf
    subst h1
    exact mm_reti F hH hr hlocks rfl rfl dX19_of_12
  · rw [if_neg c2] at hf
    refine lv_iconst (v := 1) hx hb dX19_of_7 (by decide) ?_
    refine lv_goto (tgt := 12) hx hb dX19_of_8 (by decide) ?_
    have h1 := Option.some.inj hf
    subst h1
    exact mm_reti F hH hr hlocks rfl rfl dX19_of_12
/-! IslandHeap$Part$6.of(LIslandHeap;LIslandHeap$Thing;)I -/
abbrev rm_X20_of : Room := { frames := 0, cells := 0, slots := 0, locals := 0 }
set_option maxHeartbeats 4000000 in
theorem m_X20_of (l : Launch) (G : mm_G) (a1 : Nat) (a2 : Nat) (σ : mm_M) (rr : Int32) (hf : f_X20_of a1 a2 σ = some rr) : mm_MetU l yX20_of (ws_ yX20_of cX20_of 3 ((Option.some .int))) rm_X20_of (mm_Pc G [.ref (G.2.2.1 5), .ref a1, .ref a2] σ) (mm_Qi G rr σ) 0 0 (mm_A G) := by
  refine mm_metU (by decide) rfl rfl (by  exact Nat.le_of_ble_eq_true rfl) (fun p e s m below meth c ls F hH hr hlocks hname hl => ?_)
  have hl : lv_has ls 3 [(0, .ref (G.2.2.1 5)), (1, .ref a1), (2, .ref a2)] := by  exact hl
  have F : mm_F p s m _ c RX20 cX20_of 3 G := F
  have hx := F.1
  have hb := F.2.1
  have hml := F.2.2.1
  have hown := F.2.2.2.1
  have hts := F.2.2.2.2.1
  unfold f_X20_of at hf
  refine lv_aload_n hx hb dX20_of_0 rfl (lv_at hl 2 rfl) ?_
  replace hf := b1_i hf
  obtain ⟨v1, e1, hf⟩ := hf
  refine mm_getIN F hH mc_3 (k := 4) (by decide) q269 (fun _ h => h) e1 dX20_of_1 ?_
  have h1 := Option.some.inj hf
  subst h1
  exact mm_reti F hH hr hlocks rfl rfl dX20_of_4
/-! IslandHeap$Heap.countOf([ILIslandHeap$Thing;)I -/
abbrev rm_X1_countOf : Room := { frames := 2, cells := 0, slots := 0, locals := 40 }
set_option maxHeartbeats 4000000 in
theorem w_X1_countOf_11 {p : Program} {l : Launch} {e : Env} {s : State} {m : MethodId} {av : Array Value} {below : List Frame} {meth : Method} {c : Code} {G : mm_G} {rr : Int32} {n : Nat} {σ : mm_M} {a0 : Nat} {a1 : Nat} (F : mm_F p s m av c RX1 cX1_countOf 7 G) (hr : meth.sig.returnType = (Option.some .int)) (hlocks : meth.locks = false) (hname : meth.name = yX1_countOf.name) (IH11 : ∀ (x2 : Int32) (a3 : Nat) (x4 : Int32) (x5 : Int32) (H : Heap) (locs : List Loc) (ls : Array Slot), mm_H G s σ H locs → lv_has ls 7 [(0, .ref a0), (1, .ref a1), (2, .int x2), (3, .ref a3), (4, .int x4), (5, .int x5)] → itn (s_X1_countOf a0 a1 σ) n (x2, a3, x4, x5) = some rr → W p l e rm_X1_countOf s m av below meth c H locs 0 0 (MQ below (mm_Qi G rr σ) av s 0 0 (mm_A G)) (F0 m 11 ls []))  (x2 : Int32) (a3 : Nat) (x4 : Int32) (x5 : Int32)  (hf : evn (s_X1_countOf a0 a1 σ) n (g_X1_countOf_11 a0 a1 x2 a3 x4 x5 σ) = some rr) {H : Heap} {locs : List Loc} {ls : Array Slot} (hH : mm_H G s σ H locs) (hl : lv_has ls 7 [(0, .ref a0), (1, .ref a1), (2, .int x2), (3, .ref a3), (4, .int x4), (5, .int x5)]) : W p l e rm_X1_countOf s m av below meth c H locs 0 0 (MQ below (mm_Qi G rr σ) av s 0 0 (mm_A G)) (F0 m 11 ls []) := by
  have hx := F.1
  have hb := F.2.1
  have hml := F.2.2.1
  have hown := F.2.2.2.1
  have hts := F.2.2.2.2.1
  unfold g_X1_countOf_11 at hf
  refine lv_iload hx hb dX1_countOf_11 (lv_at hl 5 rfl) ?_
  refine lv_iload hx hb dX1_countOf_13 (lv_at hl 4 rfl) ?_
  refine lv_icmp_ge (tgt := 62) hx hb dX1_countOf_15 (by decide) (fun c1 => ?_) (fun c1 => ?_)
  · rw [if_pos c1] at hf
    refine lv_iload_n hx hb dX1_countOf_62 rfl (lv_at hl 2 rfl) ?_
    rw [evn_r] at hf
    have h1 := Option.some.inj hf
    subst h1
    exact mm_reti F hH hr hlocks rfl rfl dX1_countOf_63
  · rw [if_neg c1] at hf
    refine lv_aload_n hx hb dX1_countOf_18 rfl (lv_at hl 3 rfl) ?_
    refine lv_iload hx hb dX1_countOf_19 (lv_at hl 5 rfl) ?_
    replace hf := evn_b1 hf
    obtain ⟨v2, e1, hf⟩ := hf
    refine mm_iald F hH e1 dX1_countOf_21 ?_
    refine lv_istore (lv' := [(6, .int v2), (0, .ref a0), (1, .ref a1), (2, .int x2), (3, .ref a3), (4, .int x4), (5, .int x5)]) hx hb dX1_countOf_22 hl (by decide) rfl (fun ls hl => ?_)
    refine lv_iload_n hx hb dX1_countOf_24 rfl (lv_at hl 3 rfl) ?_
    refine lv_iload hx hb dX1_countOf_25 (lv_at hl 0 rfl) ?_
    refine lv_iconst (v := (-1)) hx hb dX1_countOf_27 (by decide) ?_
    refine lv_icmp_eq (tgt := 53) hx hb dX1_countOf_28 (by decide) (fun c3 => ?_) (fun c3 => ?_)
    · rw [if_pos c3] at hf
      refine lv_iconst (v := 0) hx hb dX1_countOf_53 (by decide) ?_
      refine lv_iadd hx hb dX1_countOf_54 ?_
      refine lv_istore_n (lv' := [(2, .int (x2 + (0 : Int32))), (6, .int v2), (0, .ref a0), (1, .ref a1), (3, .ref a3), (4, .int x4), (5, .int x5)]) hx hb dX1_countOf_55 rfl hl (by decide) rfl (fun ls hl => ?_)
      refine lv_iinc (v := x5 + (1 : Int32)) (lv' := [(5, .int (x5 + (1 : Int32))), (2, .int (x2 + (0 : Int32))), (6, .int v2), (0, .ref a0), (1, .ref a1), (3, .ref a3), (4, .int x4)]) hx hb dX1_countOf_56 hl (k := 6) rfl rfl (by decide) rfl (fun ls hl => ?_)
      refine lv_goto (tgt := 11) hx hb dX1_countOf_59 (by decide) ?_
      rw [evn_l] at hf
      exact IH11 (x2 + (0 : Int32)) a3 x4 (x5 + (1 : Int32)) _ _ _ hH (lv_sub hl [3, 4, 1, 5, 6, 0] rfl) hf
    · rw [if_neg c3] at hf
      refine lv_iload hx hb dX1_countOf_31 (lv_at hl 0 rfl) ?_
      refine lv_aload_n hx hb dX1_countOf_33 rfl (lv_at hl 2 rfl) ?_
      replace hf := evn_b1 hf
      obtain ⟨v4, e2, hf⟩ := hf
      refine mm_getIN F hH mc_3 (k := 0) (by decide) q252 (fun _ h => h) e2 dX1_countOf_34 ?_
      refine lv_aload_n hx hb dX1_countOf_37 rfl (lv_at hl 2 rfl) ?_
      replace hf := evn_b1 hf
      obtain ⟨u, e3, hf⟩ := hf
      obtain ⟨fs, ek⟩ := ck_i e3
      replace hf := evn_b1 hf
      obtain ⟨v5, e4, hf⟩ := hf
      refine mm_ci (va_runV (As := []) (rest := [.int v4, .int v2, .int x2]) ⟨hx, hb, hml, hown, hts⟩ (m_X3_end l G a1 σ v5 e4) (cwV 0 hts (lw_V q236 q237 q238 q68 q239) rfl rfl rfl (by decide +kernel) ⟨Nat.le_of_ble_eq_true rfl, Nat.le_of_ble_eq_true rfl⟩) (mm_preV F.2.2.2.2.2 hH (ci := 3) rfl ek) rfl rfl hl.1 rfl (lv_room (Nat.le_of_ble_eq_true rfl)) dX1_countOf_38 ⟨Nat.le_of_ble_eq_true rfl, Nat.le_of_ble_eq_true rfl⟩) hH (fun H locs hH => ?_)
      refine lv_iconst (v := 1) hx hb dX1_countOf_41 (by decide) ?_
      refine lv_isub hx hb dX1_countOf_42 ?_
      replace hf := evn_b1 hf
      obtain ⟨v6, e5, hf⟩ := hf
      refine mm_ci (va_runSN (As := [.int v2, .int v4, .int (v5 - (1 : Int32))]) (rest := [.int x2]) ⟨hx, hb, hml, hown, hts⟩ (m_X0_isIn l G v2 v4 (v5 - (1 : Int32)) σ v6 e5) ⟨(va_cnB 3 hts (lw_meth q218) rfl rfl rfl (F.2.2.2.2.2.2.1 _ q392 rfl) (hts _ q62) (by decide +kernel) ⟨Nat.le_of_ble_eq_true rfl, Nat.le_of_ble_eq_true rfl⟩), hts _ q217, trivial⟩ (mm_preS F.2.2.2.2.2 hH) rfl rfl hl.1 rfl (lv_room (Nat.le_of_ble_eq_true rfl)) dX1_countOf_43 ⟨Nat.le_of_ble_eq_true rfl, Nat.le_of_ble_eq_true rfl⟩) hH (fun H locs hH => ?_)
      refine lv_if_eq (tgt := 53) hx hb dX1_countOf_46 (by decide) (fun c7 => ?_) (fun c7 => ?_)
      · rw [if_pos c7] at hf
        refine lv_iconst (v := 0) hx hb dX1_countOf_53 (by decide) ?_
        refine lv_iadd hx hb dX1_countOf_54 ?_
        refine lv_istore_n (lv' := [(2, .int (x2 + (0 : Int32))), (6, .int v2), (0, .ref a0), (1, .ref a1), (3, .ref a3), (4, .int x4), (5, .int x5)]) hx hb dX1_countOf_55 rfl hl (by decide) rfl (fun ls hl => ?_)
        refine lv_iinc (v := x5 + (1 : Int32)) (lv' := [(5, .int (x5 + (1 : Int32))), (2, .int (x2 + (0 : Int32))), (6, .int v2), (0, .ref a0), (1, .ref a1), (3, .ref a3), (4, .int x4)]) hx hb dX1_countOf_56 hl (k := 6) rfl rfl (by decide) rfl (fun ls hl => ?_)
        refine lv_goto (tgt := 11) hx hb dX1_countOf_59 (by decide) ?_
        rw [evn_l] at hf
        exact IH11 (x2 + (0 : Int32)) a3 x4 (x5 + (1 : Int32)) _ _ _ hH (lv_sub hl [3, 4, 1, 5, 6, 0] rfl) hf
      · rw [if_neg c7] at hf
        refine lv_iconst (v := 1) hx hb dX1_countOf_49 (by decide) ?_
        refine lv_goto (tgt := 54) hx hb dX1_countOf_50 (by decide) ?_
        refine lv_iadd hx hb dX1_countOf_54 ?_
        refine lv_istore_n (lv' := [(2, .int (x2 + (1 : Int32))), (6, .int v2), (0, .ref a0), (1, .ref a1), (3, .ref a3), (4, .int x4), (5, .int x5)]) hx hb dX1_countOf_55 rfl hl (by decide) rfl (fun ls hl => ?_)
        refine lv_iinc (v := x5 + (1 : Int32)) (lv' := [(5, .int (x5 + (1 : Int32))), (2, .int (x2 + (1 : Int32))), (6, .int v2), (0, .ref a0), (1, .ref a1), (3, .ref a3), (4, .int x4)]) hx hb dX1_countOf_56 hl (k := 6) rfl rfl (by decide) rfl (fun ls hl => ?_)
        refine lv_goto (tgt := 11) hx hb dX1_countOf_59 (by decide) ?_
        rw [evn_l] at hf
        exact IH11 (x2 + (1 : Int32)) a3 x4 (x5 + (1 : Int32)) _ _ _ hH (lv_sub hl [3, 4, 1, 5, 6, 0] rfl) hf
set_option maxHeartbeats 4000000 in
theorem w_X1_countOf_0 {p : Program} {l : Launch} {e : Env} {s : State} {m : MethodId} {av : Array Value} {below : List Frame} {meth : Method} {c : Code} {G : mm_G} {rr : Int32} {n : Nat} {σ : mm_M} {a0 : Nat} {a1 : Nat} (F : mm_F p s m av c RX1 cX1_countOf 7 G) (hr : meth.sig.returnType = (Option.some .int)) (hlocks : meth.locks = false) (hname : meth.name = yX1_countOf.name) (IH11 : ∀ (x2 : Int32) (a3 : Nat) (x4 : Int32) (x5 : Int32) (H : Heap) (locs : List Loc) (ls : Array Slot), mm_H G s σ H locs → lv_has ls 7 [(0, .ref a0), (1, .ref a1), (2, .int x2), (3, .ref a3), (4, .int x4), (5, .int x5)] → itn (s_X1_countOf a0 a1 σ) n (x2, a3, x4, x5) = some rr → W p l e rm_X1_countOf s m av below meth c H locs 0 0 (MQ below (mm_Qi G rr σ) av s 0 0 (mm_A G)) (F0 m 11 ls []))    (hf : evn (s_X1_countOf a0 a1 σ) n (g_X1_countOf_0 a0 a1 σ) = some rr) {H : Heap} {locs : List Loc} {ls : Array Slot} (hH : mm_H G s σ H locs) (hl : lv_has ls 7 [(0, .ref a0), (1, .ref a1)]) : W p l e rm_X1_countOf s m av below meth c H locs 0 0 (MQ below (mm_Qi G rr σ) av s 0 0 (mm_A G)) (F0 m 0 ls []) := by
  have hx := F.1
  have hb := F.2.1
  have hml := F.2.2.1
  have hown := F.2.2.2.1
  have hts := F.2.2.2.2.1
  unfold g_X1_countOf_0 at hf
  refine lv_iconst (v := 0) hx hb dX1_countOf_0 (by decide) ?_
  refine lv_istore_n (lv' := [(2, .int (0 : Int32)), (0, .ref a0), (1, .ref a1)]) hx hb dX1_countOf_1 rfl hl (by decide) rfl (fun ls hl => ?_)
  refine lv_aload_n hx hb dX1_countOf_2 rfl (lv_at hl 1 rfl) ?_
  refine lv_astore_n (lv' := [(3, .ref a0), (2, .int (0 : Int32)), (0, .ref a0), (1, .ref a1)]) hx hb dX1_countOf_3 rfl hl (by decide) rfl (fun ls hl => ?_)
  refine lv_aload_n hx hb dX1_countOf_4 rfl (lv_at hl 0 rfl) ?_
  replace hf := evn_b1 hf
  obtain ⟨v1, e1, hf⟩ := hf
  refine mm_alen F hH e1 dX1_countOf_5 ?_
  refine lv_istore (lv' := [(4, .int v1), (3, .ref a0), (2, .int (0 : Int32)), (0, .ref a0), (1, .ref a1)]) hx hb dX1_countOf_6 hl (by decide) rfl (fun ls hl => ?_)
  refine lv_iconst (v := 0) hx hb dX1_countOf_8 (by decide) ?_
  refine lv_istore (lv' := [(5, .int (0 : Int32)), (4, .int v1), (3, .ref a0), (2, .int (0 : Int32)), (0, .ref a0), (1, .ref a1)]) hx hb dX1_countOf_9 hl (by decide) rfl (fun ls hl => ?_)
  rw [evn_l] at hf
  exact IH11 (0 : Int32) a0 v1 (0 : Int32) _ _ _ hH (lv_sub hl [4, 5, 3, 2, 1, 0] rfl) hf
set_option maxHeartbeats 4000000 in
theorem l_X1_countOf {p : Program} {l : Launch} {e : Env} {s : State} {m : MethodId} {av : Array Value} {below : List Frame} {meth : Method} {c : Code} {G : mm_G} {rr : Int32} {σ : mm_M} {a0 : Nat} {a1 : Nat} (F : mm_F p s m av c RX1 cX1_countOf 7 G) (hr : meth.sig.returnType = (Option.some .int)) (hlocks : meth.locks = false) (hname : meth.name = yX1_countOf.name) : ∀ n : Nat, (∀ (x2 : Int32) (a3 : Nat) (x4 : Int32) (x5 : Int32) (H : Heap) (locs : List Loc) (ls : Array Slot), mm_H G s σ H locs → lv_has ls 7 [(0, .ref a0), (1, .ref a1), (2, .int x2), (3, .ref a3), (4, .int x4), (5, .int x5)] → itn (s_X1_countOf a0 a1 σ) n (x2, a3, x4, x5) = some rr → W p l e rm_X1_countOf s m av below meth c H locs 0 0 (MQ below (mm_Qi G rr σ) av s 0 0 (mm_A G)) (F0 m 11 ls [])) := by
  intro n
  induction n with
  | zero =>
    exact fun x2 a3 x4 x5 H locs ls hH hl hf => by cases hf
  | succ n ih =>
    have IH11 := ih
    intro x2 a3 x4 x5 H locs ls hH hl hf
    rw [itn_s] at hf
    exact w_X1_countOf_11 F hr hlocks hname IH11 x2 a3 x4 x5 hf hH hl
set_option maxHeartbeats 4000000 in
theorem m_X1_countOf (l : Launch) (G : mm_G) (a0 : Nat) (a1 : Nat) (σ : mm_M) (rr : Int32) (hf : f_X1_countOf a0 a1 σ = some rr) : Met l yX1_countOf (ws_ yX1_countOf cX1_countOf 7 ((Option.some .int))) rm_X1_countOf (mm_Pc G [.ref a0, .ref a1] σ) (mm_Qi G rr σ) 0 0 (mm_A G) := by
  refine mm_met (by decide) rfl rfl (by  exact Nat.le_of_ble_eq_true rfl) (fun p e s m below meth c ls F hH hr hlocks hname hl => ?_)
  have hl : lv_has ls 7 [(0, .ref a0), (1, .ref a1)] := by  exact hl
  have F : mm_F p s m _ c RX1 cX1_countOf 7 G := F
  unfold f_X1_countOf at hf
  obtain ⟨n, hf⟩ := lgo_i hf
  have IH := l_X1_countOf (l := l) (e := e) (below := below) (rr := rr) (σ := σ) (a0 := a0) (a1 := a1) F hr hlocks hname n
  exact w_X1_countOf_0 F hr hlocks hname IH  hf hH (lv_sub hl [0, 1] rfl)
/-! IslandHeap$Heap.references(LIslandHeap$Thing;)I -/
abbrev rm_X1_references : Room := { frames := 3, cells := 0, slots := 0, locals := 66 }
set_option maxHeartbeats 4000000 in
theorem w_X1_references_20 {p : Program} {l : Launch} {e : Env} {s : State} {m : MethodId} {av : Array Value} {below : List Frame} {meth : Method} {c : Code} {G : mm_G} {rr : Int32} {n : Nat} {σ : mm_M} {h0 : Nat} {a1 : Nat} (F : mm_F p s m av c RX1 cX1_references 4 G) (hr : meth.sig.returnType = (Option.some .int)) (hlocks : meth.locks = false) (hname : meth.name = yX1_references.name) (IH20 : ∀ (x2 : Int32) (x3 : Int32) (H : Heap) (locs : List Loc) (ls : Array Slot), mm_H G s σ H locs → lv_has ls 4 [(0, .ref h0), (1, .ref a1), (2, .int x2), (3, .int x3)] → itn (s_X1_references h0 a1 σ) n (x2, x3) = some rr → W p l e rm_X1_references s m av below meth c H locs 0 0 (MQ below (mm_Qi G rr σ) av s 0 0 (mm_A G)) (F0 m 20 ls []))  (x2 : Int32) (x3 : Int32)  (hf : evn (s_X1_references h0 a1 σ) n (g_X1_references_20 h0 a1 x2 x3 σ) = some rr) {H : Heap} {locs : List Loc} {ls : Array Slot} (hH : mm_H G s σ H locs) (hl : lv_has ls 4 [(0, .ref h0), (1, .ref a1), (2, .int x2), (3, .int x3)]) : W p l e rm_X1_references s m av below meth c H locs 0 0 (MQ below (mm_Qi G rr σ) av s 0 0 (mm_A G)) (F0 m 20 ls []) := by
  have hx := F.1
  have hb := F.2.1
  have hml := F.2.2.1
  have hown := F.2.2.2.1
  have hts := F.2.2.2.2.1
  unfold g_X1_references_20 at hf
  refine lv_iload_n hx hb dX1_references_20 rfl (lv_at hl 3 rfl) ?_
  refine lv_aload_n hx hb dX1_references_21 rfl (lv_at hl 0 rfl) ?_
  replace hf := evn_b1 hf
  obtain ⟨q1, e1, hf⟩ := hf
  refine mm_getA F hH mc_1 (k := 2) (by decide) (hts _ q136) (fun _ h => h) e1 dX1_references_22 ?_
  replace hf := evn_b1 hf
  obtain ⟨u, e2, hf⟩ := hf
  obtain ⟨fs, ek⟩ := ck_i e2
  replace hf := evn_b1 hf
  obtain ⟨v2, e3, hf⟩ := hf
  refine mm_ci (va_runV (As := []) (rest := [.int x3]) ⟨hx, hb, hml, hown, hts⟩ (m_J2_size l G q1 σ v2 e3) (cwV 0 hts (lw_V q290 q291 q292 q66 q293) rfl rfl rfl (by decide +kernel) ⟨Nat.le_of_ble_eq_true rfl, Nat.le_of_ble_eq_true rfl⟩) (mm_preV F.2.2.2.2.2 hH (ci := 15) rfl ek) rfl rfl hl.1 rfl (lv_room (Nat.le_of_ble_eq_true rfl)) dX1_references_25 ⟨Nat.le_of_ble_eq_true rfl, Nat.le_of_ble_eq_true rfl⟩) hH (fun H locs hH => ?_)
  refine lv_icmp_ge (tgt := 58) hx hb dX1_references_28 (by decide) (fun c3 => ?_) (fun c3 => ?_)
  · rw [if_pos c3] at hf
    refine lv_iload_n hx hb dX1_references_58 rfl (lv_at hl 2 rfl) ?_
    rw [evn_r] at hf
    have h1 := Option.some.inj hf
    subst h1
    exact mm_reti F hH hr hlocks rfl rfl dX1_references_59
  · rw [if_neg c3] at hf
    refine lv_iload_n hx hb dX1_references_31 rfl (lv_at hl 2 rfl) ?_
    refine lv_aload_n hx hb dX1_references_32 rfl (lv_at hl 0 rfl) ?_
    replace hf := evn_b1 hf
    obtain ⟨q4, e4, hf⟩ := hf
    refine mm_getA F hH mc_1 (k := 2) (by decide) (hts _ q136) (fun _ h => h) e4 dX1_references_33 ?_
    refine lv_iload_n hx hb dX1_references_36 rfl (lv_at hl 3 rfl) ?_
    replace hf := evn_b1 hf
    obtain ⟨u, e5, hf⟩ := hf
    obtain ⟨fs, ek⟩ := ck_i e5
    replace hf := evn_b1 hf
    obtain ⟨p5, e6, hf⟩ := hf
    refine mm_cq (va_runV (As := [.int x3]) (rest := [.int x2]) ⟨hx, hb, hml, hown, hts⟩ (m_J2_get l G q4 x3 σ p5 e6) (cwV 1 hts (lw_V q294 q295 q296 q66 q297) rfl rfl rfl (by decide +kernel) ⟨Nat.le_of_ble_eq_true rfl, Nat.le_of_ble_eq_true rfl⟩) (mm_preV F.2.2.2.2.2 hH (ci := 15) rfl ek) rfl rfl hl.1 rfl (lv_room (Nat.le_of_ble_eq_true rfl)) dX1_references_37 ⟨Nat.le_of_ble_eq_true rfl, Nat.le_of_ble_eq_true rfl⟩) hH (fun H locs hH => ?_)
    replace hf := evn_b1 hf
    obtain ⟨q6, e7, hf⟩ := hf
    subst e7
    replace hf := evn_b1 hf
    obtain ⟨u, e8, hf⟩ := hf
    refine mm_cast F hH mc_3 (hts _ q130) e8 dX1_references_40 ?_
    replace hf := evn_b1 hf
    obtain ⟨q7, e9, hf⟩ := hf
    refine mm_getAN F hH mc_3 (k := 1) (by decide) q259 (fun _ h => h) e9 dX1_references_43 ?_
    refine lv_aload_n hx hb dX1_references_46 rfl (lv_at hl 1 rfl) ?_
    replace hf := evn_b1 hf
    obtain ⟨v8, e10, hf⟩ := hf
    refine mm_ci (va_runS (As := [.ref q7, .ref a1]) (rest := [.int x2]) ⟨hx, hb, hml, hown, hts⟩ (m_X1_countOf l G q7 a1 σ v8 e10) (va_cwS 2 hts (lw_S q441 q442 q63 q443) rfl rfl rfl (by decide +kernel) ⟨Nat.le_of_ble_eq_true rfl, Nat.le_of_ble_eq_true rfl⟩) (mm_preS F.2.2.2.2.2 hH) rfl rfl hl.1 rfl (lv_room (Nat.le_of_ble_eq_true rfl)) dX1_references_47 ⟨Nat.le_of_ble_eq_true rfl, Nat.le_of_ble_eq_true rfl⟩) hH (fun H locs hH => ?_)
    refine lv_iadd hx hb dX1_references_50 ?_
    refine lv_istore_n (lv' := [(2, .int (x2 + v8)), (0, .ref h0), (1, .ref a1), (3, .int x3)]) hx hb dX1_references_51 rfl hl (by decide) rfl (fun ls hl => ?_)
    refine lv_iinc (v := x3 + (1 : Int32)) (lv' := [(3, .int (x3 + (1 : Int32))), (2, .int (x2 + v8)), (0, .ref h0), (1, .ref a1)]) hx hb dX1_references_52 hl (k := 3) rfl rfl (by decide) rfl (fun ls hl => ?_)
    refine lv_goto (tgt := 20) hx hb dX1_references_55 (by decide) ?_
    rw [evn_l] at hf
    exact IH20 (x2 + v8) (x3 + (1 : Int32)) _ _ _ hH (lv_sub hl [2, 3, 1, 0] rfl) hf
set_option maxHeartbeats 4000000 in
theorem w_X1_references_0 {p : Program} {l : Launch} {e : Env} {s : State} {m : MethodId} {av : Array Value} {below : List Frame} {meth : Method} {c : Code} {G : mm_G} {rr : Int32} {n : Nat} {σ : mm_M} {h0 : Nat} {a1 : Nat} (F : mm_F p s m av c RX1 cX1_references 4 G) (hr : meth.sig.returnType = (Option.some .int)) (hlocks : meth.locks = false) (hname : meth.name = yX1_references.name) (IH20 : ∀ (x2 : Int32) (x3 : Int32) (H : Heap) (locs : List Loc) (ls : Array Slot), mm_H G s σ H locs → lv_has ls 4 [(0, .ref h0), (1, .ref a1), (2, .int x2), (3, .int x3)] → itn (s_X1_references h0 a1 σ) n (x2, x3) = some rr → W p l e rm_X1_references s m av below meth c H locs 0 0 (MQ below (mm_Qi G rr σ) av s 0 0 (mm_A G)) (F0 m 20 ls []))    (hf : evn (s_X1_references h0 a1 σ) n (g_X1_references_0 h0 a1 σ) = some rr) {H : Heap} {locs : List Loc} {ls : Array Slot} (hH : mm_H G s σ H locs) (hl : lv_has ls 4 [(0, .ref h0), (1, .ref a1)]) : W p l e rm_X1_references s m av below meth c H locs 0 0 (MQ below (mm_Qi G rr σ) av s 0 0 (mm_A G)) (F0 m 0 ls []) := by
  have hx := F.1
  have hb := F.2.1
  have hml := F.2.2.1
  have hown := F.2.2.2.1
  have hts := F.2.2.2.2.1
  unfold g_X1_references_0 at hf
  refine lv_aload_n hx hb dX1_references_0 rfl (lv_at hl 0 rfl) ?_
  replace hf := evn_b1 hf
  obtain ⟨q1, e1, hf⟩ := hf
  refine mm_getA F hH mc_1 (k := 4) (by decide) (hts _ q142) (fun _ h => h) e1 dX1_references_1 ?_
  refine lv_aload_n hx hb dX1_references_4 rfl (lv_at hl 1 rfl) ?_
  replace hf := evn_b1 hf
  obtain ⟨v2, e2, hf⟩ := hf
  refine mm_ci (va_runS (As := [.ref q1, .ref a1]) (rest := []) ⟨hx, hb, hml, hown, hts⟩ (m_X1_countOf l G q1 a1 σ v2 e2) (va_cwS 2 hts (lw_S q441 q442 q63 q443) rfl rfl rfl (by decide +kernel) ⟨Nat.le_of_ble_eq_true rfl, Nat.le_of_ble_eq_true rfl⟩) (mm_preS F.2.2.2.2.2 hH) rfl rfl hl.1 rfl (lv_room (Nat.le_of_ble_eq_true rfl)) dX1_references_5 ⟨Nat.le_of_ble_eq_true rfl, Nat.le_of_ble_eq_true rfl⟩) hH (fun H locs hH => ?_)
  refine lv_aload_n hx hb dX1_references_8 rfl (lv_at hl 0 rfl) ?_
  replace hf := evn_b1 hf
  obtain ⟨q3, e3, hf⟩ := hf
  refine mm_getA F hH mc_1 (k := 5) (by decide) (hts _ q146) (fun _ h => h) e3 dX1_references_9 ?_
  refine lv_aload_n hx hb dX1_references_12 rfl (lv_at hl 1 rfl) ?_
  replace hf := evn_b1 hf
  obtain ⟨v4, e4, hf⟩ := hf
  refine mm_ci (va_runS (As := [.ref q3, .ref a1]) (rest := [.int v2]) ⟨hx, hb, hml, hown, hts⟩ (m_X1_countOf l G q3 a1 σ v4 e4) (va_cwS 2 hts (lw_S q441 q442 q63 q443) rfl rfl rfl (by decide +kernel) ⟨Nat.le_of_ble_eq_true rfl, Nat.le_of_ble_eq_true rfl⟩) (mm_preS F.2.2.2.2.2 hH) rfl rfl hl.1 rfl (lv_room (Nat.le_of_ble_eq_true rfl)) dX1_references_13 ⟨Nat.le_of_ble_eq_true rfl, Nat.le_of_ble_eq_true rfl⟩) hH (fun H locs hH => ?_)
  refine lv_iadd hx hb dX1_references_16 ?_
  refine lv_istore_n (lv' := [(2, .int (v2 + v4)), (0, .ref h0), (1, .ref a1)]) hx hb dX1_references_17 rfl hl (by decide) rfl (fun ls hl => ?_)
  refine lv_iconst (v := 0) hx hb dX1_references_18 (by decide) ?_
  refine lv_istore_n (lv' := [(3, .int (0 : Int32)), (2, .int (v2 + v4)), (0, .ref h0), (1, .ref a1)]) hx hb dX1_references_19 rfl hl (by decide) rfl (fun ls hl => ?_)
  rw [evn_l] at hf
  exact IH20 (v2 + v4) (0 : Int32) _ _ _ hH (lv_sub hl [2, 3, 1, 0] rfl) hf
set_option maxHeartbeats 4000000 in
theorem l_X1_references {p : Program} {l : Launch} {e : Env} {s : State} {m : MethodId} {av : Array Value} {below : List Frame} {meth : Method} {c : Code} {G : mm_G} {rr : Int32} {σ : mm_M} {h0 : Nat} {a1 : Nat} (F : mm_F p s m av c RX1 cX1_references 4 G) (hr : meth.sig.returnType = (Option.some .int)) (hlocks : meth.locks = false) (hname : meth.name = yX1_references.name) : ∀ n : Nat, (∀ (x2 : Int32) (x3 : Int32) (H : Heap) (locs : List Loc) (ls : Array Slot), mm_H G s σ H locs → lv_has ls 4 [(0, .ref h0), (1, .ref a1), (2, .int x2), (3, .int x3)] → itn (s_X1_references h0 a1 σ) n (x2, x3) = some rr → W p l e rm_X1_references s m av below meth c H locs 0 0 (MQ below (mm_Qi G rr σ) av s 0 0 (mm_A G)) (F0 m 20 ls [])) := by
  intro n
  induction n with
  | zero =>
    exact fun x2 x3 H locs ls hH hl hf => by cases hf
  | succ n ih =>
    have IH20 := ih
    intro x2 x3 H locs ls hH hl hf
    rw [itn_s] at hf
    exact w_X1_references_20 F hr hlocks hname IH20 x2 x3 hf hH hl
set_option maxHeartbeats 4000000 in
theorem m_X1_references (l : Launch) (G : mm_G) (h0 : Nat) (a1 : Nat) (σ : mm_M) (rr : Int32) (hf : f_X1_references h0 a1 σ = some rr) : Met l yX1_references (ws_ yX1_references cX1_references 4 ((Option.some .int))) rm_X1_references (mm_Pc G [.ref h0, .ref a1] σ) (mm_Qi G rr σ) 0 0 (mm_A G) := by
  refine mm_met (by decide) rfl rfl (by  exact Nat.le_of_ble_eq_true rfl) (fun p e s m below meth c ls F hH hr hlocks hname hl => ?_)
  have hl : lv_has ls 4 [(0, .ref h0), (1, .ref a1)] := by  exact hl
  have F : mm_F p s m _ c RX1 cX1_references 4 G := F
  unfold f_X1_references at hf
  obtain ⟨n, hf⟩ := lgo_i hf
  have IH := l_X1_references (l := l) (e := e) (below := below) (rr := rr) (σ := σ) (h0 := h0) (a1 := a1) F hr hlocks hname n
  exact w_X1_references_0 F hr hlocks hname IH  hf hH (lv_sub hl [0, 1] rfl)
/-! IslandHeap$Part$7.of(LIslandHeap;LIslandHeap$Thing;)I -/
abbrev rm_X15_of : Room := { frames := 4, cells := 0, slots := 0, locals := 89 }
set_option maxHeartbeats 4000000 in
theorem m_X15_of (l : Launch) (G : mm_G) (a1 : Nat) (a2 : Nat) (σ : mm_M) (rr : Int32) (hf : f_X15_of a1 a2 σ = some rr) : mm_MetU l yX15_of (ws_ yX15_of cX15_of 3 ((Option.some .int))) rm_X15_of (mm_Pc G [.ref (G.2.2.1 6), .ref a1, .ref a2] σ) (mm_Qi G rr σ) 0 0 (mm_A G) := by
  refine mm_metU (by decide) rfl rfl (by  exact Nat.le_of_ble_eq_true rfl) (fun p e s m below meth c ls F hH hr hlocks hname hl => ?_)
  have hl : lv_has ls 3 [(0, .ref (G.2.2.1 6)), (1, .ref a1), (2, .ref a2)] := by  exact hl
  have F : mm_F p s m _ c RX15 cX15_of 3 G := F
  have hx := F.1
  have hb := F.2.1
  have hml := F.2.2.1
  have hown := F.2.2.2.1
  have hts := F.2.2.2.2.1
  unfold f_X15_of at hf
  refine lv_aload_n hx hb dX15_of_0 rfl (lv_at hl 1 rfl) ?_
  replace hf := b1_i hf
  obtain ⟨q1, e1, hf⟩ := hf
  refine mm_getAN F hH mc_0 (k := 0) (by decide) q184 (fun _ h => h) e1 dX15_of_1 ?_
  refine lv_aload_n hx hb dX15_of_4 rfl (lv_at hl 2 rfl) ?_
  replace hf := b1_i hf
  obtain ⟨u, e2, hf⟩ := hf
  obtain ⟨fs, ek⟩ := ck_i e2
  replace hf := b1_i hf
  obtain ⟨v2, e3, hf⟩ := hf
  refine mm_ci (va_runV (As := [.ref a2]) (rest := []) ⟨hx, hb, hml, hown, hts⟩ (m_X1_references l G q1 a2 σ v2 e3) (cwV 1 hts (lw_V q437 q438 q439 q63 q440) rfl rfl rfl (by decide +kernel) ⟨Nat.le_of_ble_eq_true rfl, Nat.le_of_ble_eq_true rfl⟩) (mm_preV F.2.2.2.2.2 hH (ci := 1) rfl ek) rfl rfl hl.1 rfl (lv_room (Nat.le_of_ble_eq_true rfl)) dX15_of_5 ⟨Nat.le_of_ble_eq_true rfl, Nat.le_of_ble_eq_true rfl⟩) hH (fun H locs hH => ?_)
  have h1 := Option.some.inj hf
  subst h1
  exact mm_reti F hH hr hlocks rfl rfl dX15_of_8
/-! IslandHeap$Marking.<init>(LIslandHeap$Heap;[LIslandHeap$Thing;ILIslandHeap$Thing;)V -/
abbrev rm_X4_init : Room := { frames := 1, cells := 0, slots := 0, locals := 30 }
set_option maxHeartbeats 4000000 in
theorem m_X4_init (l : Launch) (G : mm_G) (h0 : Nat) (a1 : Nat) (a2 : Nat) (x3 : Int32) (r4 : Option Nat) (σ : mm_M) (σf : mm_M) (hf : f_X4_init h0 a1 a2 x3 r4 σ = some σf) : Met l yX4_init (ws_ yX4_init cX4_init 5 ((Option.none : Option Jvm.ClassFile.FieldType))) rm_X4_init (mm_Pc G [.ref h0, .ref a1, .ref a2, .int x3, va_rf r4] σ) (mm_Qv G σf) 0 0 (mm_A G) := by
  refine mm_met (by decide) rfl rfl (by cases r4 <;> exact Nat.le_of_ble_eq_true rfl) (fun p e s m below meth c ls F hH hr hlocks hname hl => ?_)
  have hl : lv_has ls 5 [(0, .ref h0), (1, .ref a1), (2, .ref a2), (3, .int x3), (4, va_rf r4)] := by cases r4 <;> exact hl
  have F : mm_F p s m _ c RX4 cX4_init 5 G := F
  have hx := F.1
  have hb := F.2.1
  have hml := F.2.2.1
  have hown := F.2.2.2.1
  have hts := F.2.2.2.2.1
  unfold f_X4_init at hf
  refine lv_aload_n hx hb dX4_init_0 rfl (lv_at hl 0 rfl) ?_
  refine W.objInit hx hb hown (hts _ q456) (hts _ q96) (hts _ q97) rfl (hl.1.trans hml.symm) rfl dX4_init_1 (Nat.le_of_ble_eq_true rfl) (Nat.le_of_ble_eq_true rfl) ?_
  refine W.eq (g2 := F0 m 4 ls []) rfl ?_
  refine lv_aload_n hx hb dX4_init_4 rfl (lv_at hl 0 rfl) ?_
  refine lv_aload_n hx hb dX4_init_5 rfl (lv_at hl 1 rfl) ?_
  replace hf := b1_i hf
  obtain ⟨σ1, e1, hf⟩ := hf
  refine mm_putF F hH mc_4 (k := 0) (v := vR (some a1)) (by decide) (hts _ q457) (fun _ h => h) rfl hname rfl rfl rfl e1 dX4_init_6 (fun H locs hH => ?_)
  refine lv_aload_n hx hb dX4_init_9 rfl (lv_at hl 0 rfl) ?_
  refine lv_aload_n hx hb dX4_init_10 rfl (lv_at hl 2 rfl) ?_
  replace hf := b1_i hf
  obtain ⟨σ2, e2, hf⟩ := hf
  refine mm_putF F hH mc_4 (k := 2) (v := vR (some a2)) (by decide) (hts _ q459) (fun _ h => h) rfl hname rfl rfl rfl e2 dX4_init_11 (fun H locs hH => ?_)
  refine lv_aload_n hx hb dX4_init_14 rfl (lv_at hl 0 rfl) ?_
  refine lv_iload_n hx hb dX4_init_15 rfl (lv_at hl 3 rfl) ?_
  replace hf := b1_i hf
  obtain ⟨σ3, e3, hf⟩ := hf
  refine mm_putF F hH mc_4 (k := 3) (v := vI x3) (by decide) (hts _ q460) (fun _ h => h) rfl hname rfl rfl rfl e3 dX4_init_16 (fun H locs hH => ?_)
  refine lv_aload_n hx hb dX4_init_19 rfl (lv_at hl 0 rfl) ?_
  refine mm_aload (r := r4) hx hb dX4_init_20 (lv_at hl 4 rfl) ?_
  replace hf := b1_i hf
  obtain ⟨σ4, e4, hf⟩ := hf
  refine mm_putF F hH mc_4 (k := 1) (v := vR r4) (by decide) (hts _ q458) (fun _ h => h) rfl hname rfl rfl (mm_fitR r4 ⟨rfl, fun _ => rfl⟩) e4 dX4_init_22 (fun H locs hH => ?_)
  have h1 := Option.some.inj hf
  subst h1
  exact mm_retv F hH hr hlocks dX4_init_25
/-! IslandHeap$Heap.target(I)LIslandHeap$Thing; -/
abbrev rm_X1_target : Room := { frames := 0, cells := 0, slots := 0, locals := 0 }
set_option maxHeartbeats 4000000 in
theorem m_X1_target (l : Launch) (G : mm_G) (h0 : Nat) (x1 : Int32) (σ : mm_M) (rr : Option Nat) (hf : f_X1_target h0 x1 σ = some rr) : Met l yX1_target (ws_ yX1_target cX1_target 2 ((Option.some (.object "IslandHeap$Thing")))) rm_X1_target (mm_Pc G [.ref h0, .int x1] σ) (mm_Qq G rr σ) 0 0 (mm_A G) := by
  refine mm_met (by decide) rfl rfl (by  exact Nat.le_of_ble_eq_true rfl) (fun p e s m below meth c ls F hH hr hlocks hname hl => ?_)
  have hl : lv_has ls 2 [(0, .ref h0), (1, .int x1)] := by  exact hl
  have F : mm_F p s m _ c RX1 cX1_target 2 G := F
  have hx := F.1
  have hb := F.2.1
  have hml := F.2.2.1
  have hown := F.2.2.2.1
  have hts := F.2.2.2.2.1
  unfold f_X1_target at hf
  refine lv_iload_n hx hb dX1_target_0 rfl (lv_at hl 1 rfl) ?_
  refine lv_iconst (v := (-1)) hx hb dX1_target_1 (by decide) ?_
  refine lv_icmp_ne (tgt := 9) hx hb dX1_target_2 (by decide) (fun c1 => ?_) (fun c1 => ?_)
  · rw [if_neg c1] at hf
    refine lv_aload_n hx hb dX1_target_9 rfl (lv_at hl 0 rfl) ?_
    replace hf := b1_i hf
    obtain ⟨q2, e1, hf⟩ := hf
    refine mm_getA F hH mc_1 (k := 3) (by decide) (hts _ q140) (fun _ h => h) e1 dX1_target_10 ?_
    refine lv_iload_n hx hb dX1_target_13 rfl (lv_at hl 1 rfl) ?_
    replace hf := b1_i hf
    obtain ⟨p3, e2, hf⟩ := hf
    refine mm_aald F hH (k := 3) (by decide) e2 dX1_target_14 ?_
    have h1 := Option.some.inj hf
    subst h1
    exact mm_retq (v := p3) F hH hr hlocks (Or.inl ⟨_, rfl⟩) rfl dX1_target_15
  · rw [if_pos c1] at hf
    refine lv_null hx hb dX1_target_5 ?_
    refine lv_goto (tgt := 15) hx hb dX1_target_6 (by decide) ?_
    have h1 := Option.some.inj hf
    subst h1
    exact mm_retq (v := none) F hH hr hlocks (Or.inl ⟨_, rfl⟩) rfl dX1_target_15
/-! IslandHeap$Marking.reach(LIslandHeap$Thing;)V -/
abbrev rm_X4_reach : Room := { frames := 1, cells := 0, slots := 0, locals := 30 }
set_option maxHeartbeats 4000000 in
theorem m_X4_reach (l : Launch) (G : mm_G) (h0 : Nat) (r1 : Option Nat) (σ : mm_M) (σf : mm_M) (hf : f_X4_reach h0 r1 σ = some σf) : Met l yX4_reach (ws_ yX4_reach cX4_reach 2 ((Option.none : Option Jvm.ClassFile.FieldType))) rm_X4_reach (mm_Pc G [.ref h0, va_rf r1] σ) (mm_Qv G σf) 0 0 (mm_A G) := by
  refine mm_met (by decide) rfl rfl (by cases r1 <;> exact Nat.le_of_ble_eq_true rfl) (fun p e s m below meth c ls F hH hr hlocks hname hl => ?_)
  have hl : lv_has ls 2 [(0, .ref h0), (1, va_rf r1)] := by cases r1 <;> exact hl
  have F : mm_F p s m _ c RX4 cX4_reach 2 G := F
  have hx := F.1
  have hb := F.2.1
  have hml := F.2.2.1
  have hown := F.2.2.2.1
  have hts := F.2.2.2.2.1
  unfold f_X4_reach at hf
  refine mm_aload_n (r := r1) hx hb dX4_reach_0 rfl (lv_at hl 1 rfl) ?_
  cases r1 with
  | none =>
    rw [mt_n] at hf
    refine lv_ifnullN (tgt := 19) hx hb dX4_reach_1 (by decide) ?_
    have h1 := Option.some.inj hf
    subst h1
    exact mm_retv F hH hr hlocks dX4_reach_19
  | some q1 =>
    rw [mt_s] at hf
    refine lv_ifnull hx hb dX4_reach_1 ?_
    refine lv_aload_n hx hb dX4_reach_4 rfl (lv_at hl 1 rfl) ?_
    replace hf := b1_i hf
    obtain ⟨v2, e1, hf⟩ := hf
    refine mm_getIN F hH mc_3 (k := 5) (by decide) q272 (fun _ h => h) e1 dX4_reach_5 ?_
    refine lv_if_ne (tgt := 19) hx hb dX4_reach_8 (by decide) (fun c3 => ?_) (fun c3 => ?_)
    · rw [if_neg c3] at hf
      have h1 := Option.some.inj hf
      subst h1
      exact mm_retv F hH hr hlocks dX4_reach_19
    · rw [if_pos c3] at hf
      refine lv_aload_n hx hb dX4_reach_11 rfl (lv_at hl 1 rfl) ?_
      refine lv_aload_n hx hb dX4_reach_12 rfl (lv_at hl 0 rfl) ?_
      replace hf := b1_i hf
      obtain ⟨p4, e2, hf⟩ := hf
      refine mm_getR F hH mc_4 (k := 1) (by decide) (hts _ q458) (fun _ h => h) e2 dX4_reach_13 ?_
      refine lv_acmp_ne (tgt := 20) (rx := (some q1)) (ry := p4) hx hb dX4_reach_16 (by decide) (fun c5 => ?_) (fun c5 => ?_)
      · rw [if_neg c5] at hf
        refine lv_aload_n hx hb dX4_reach_20 rfl (lv_at hl 1 rfl) ?_
        refine lv_iconst (v := 1) hx hb dX4_reach_21 (by decide) ?_
        replace hf := b1_i hf
        obtain ⟨σ6, e3, hf⟩ := hf
        refine mm_putN F hH mc_3 (k := 5) (v := vI (1 : Int32)) (by decide) q272 (fun _ h => h) rfl rfl rfl e3 dX4_reach_22 (fun H locs hH => ?_)
        refine lv_aload_n hx hb dX4_reach_25 rfl (lv_at hl 0 rfl) ?_
        replace hf := b1_i hf
        obtain ⟨v7, e4, hf⟩ := hf
        refine mm_getI F hH mc_4 (k := 4) (by decide) (hts _ q461) (fun _ h => h) e4 dX4_reach_26 ?_
        refine lv_aload_n hx hb dX4_reach_29 rfl (lv_at hl 0 rfl) ?_
        replace hf := b1_i hf
        obtain ⟨v8, e5, hf⟩ := hf
        refine mm_getI F hH mc_4 (k := 3) (by decide) (hts _ q460) (fun _ h => h) e5 dX4_reach_30 ?_
        refine lv_icmp_ne (tgt := 42) hx hb dX4_reach_33 (by decide) (fun c9 => ?_) (fun c9 => ?_)
        · rw [if_neg c9] at hf
          refine lv_aload_n hx hb dX4_reach_42 rfl (lv_at hl 0 rfl) ?_
          replace hf := b1_i hf
          obtain ⟨q10, e6, hf⟩ := hf
          refine mm_getA F hH mc_4 (k := 2) (by decide) (hts _ q459) (fun _ h => h) e6 dX4_reach_43 ?_
          refine lv_aload_n hx hb dX4_reach_46 rfl (lv_at hl 0 rfl) ?_
          replace hf := b1_i hf
          obtain ⟨v11, e7, hf⟩ := hf
          refine mm_getI F hH mc_4 (k := 4) (by decide) (hts _ q461) (fun _ h => h) e7 dX4_reach_47 ?_
          refine lv_aload_n hx hb dX4_reach_50 rfl (lv_at hl 1 rfl) ?_
          replace hf := b1_i hf
          obtain ⟨σ12, e8, hf⟩ := hf
          refine mm_aast F hH (k := 3) (by decide) e8 dX4_reach_51 (fun H locs hH => ?_)
          refine lv_aload_n hx hb dX4_reach_52 rfl (lv_at hl 0 rfl) ?_
          refine lv_dup hx hb dX4_reach_53 rfl ?_
          replace hf := b1_i hf
          obtain ⟨v13, e9, hf⟩ := hf
          refine mm_getI F hH mc_4 (k := 4) (by decide) (hts _ q461) (fun _ h => h) e9 dX4_reach_54 ?_
          refine lv_iconst (v := 1) hx hb dX4_reach_57 (by decide) ?_
          refine lv_iadd hx hb dX4_reach_58 ?_
          replace hf := b1_i hf
          obtain ⟨σ14, e10, hf⟩ := hf
          refine mm_put F hH mc_4 (k := 4) (v := vI (v13 + (1 : Int32))) (by decide) (hts _ q461) (fun _ h => h) rfl rfl rfl e10 dX4_reach_59 (fun H locs hH => ?_)
          refine lv_aload_n hx hb dX4_reach_62 rfl (lv_at hl 0 rfl) ?_
          refine lv_aload_n hx hb dX4_reach_63 rfl (lv_at hl 0 rfl) ?_
          replace hf := b1_i hf
          obtain ⟨v15, e11, hf⟩ := hf
          refine mm_getI F hH mc_4 (k := 5) (by decide) (hts _ q462) (fun _ h => h) e11 dX4_reach_64 ?_
          refine lv_aload_n hx hb dX4_reach_67 rfl (lv_at hl 0 rfl) ?_
          replace hf := b1_i hf
          obtain ⟨v16, e12, hf⟩ := hf
          refine mm_getI F hH mc_4 (k := 4) (by decide) (hts _ q461) (fun _ h => h) e12 dX4_reach_68 ?_
          refine va_mmax hx hb (hml.trans hl.1.symm) hown (hts _ q503) (hts _ q328) (hts _ q72) (hts _ q329) (Nat.le_of_ble_eq_true rfl) (Nat.le_of_ble_eq_true rfl) (Nat.le_of_ble_eq_true rfl) (Nat.le_of_ble_eq_true rfl) dX4_reach_71 ?_
          replace hf := b1_i hf
          obtain ⟨σ17, e13, hf⟩ := hf
          refine mm_put F hH mc_4 (k := 5) (v := vI (if v15 < v16 then v16 else v15)) (by decide) (hts _ q462) (fun _ h => h) rfl rfl rfl e13 dX4_reach_74 (fun H locs hH => ?_)
          have h1 := Option.some.inj hf
          subst h1
          exact mm_retv F hH hr hlocks dX4_reach_77
        · rw [if_pos c9] at hf
          refine lv_aload_n hx hb dX4_reach_36 rfl (lv_at hl 0 rfl) ?_
          refine lv_iconst (v := 1) hx hb dX4_reach_37 (by decide) ?_
          replace hf := b1_i hf
          obtain ⟨σ18, e14, hf⟩ := hf
          refine mm_put F hH mc_4 (k := 7) (v := vI (1 : Int32)) (by decide) (hts _ q466) (fun _ h => h) rfl rfl rfl e14 dX4_reach_38 (fun H locs hH => ?_)
          have h1 := Option.some.inj hf
          subst h1
          exact mm_retv F hH hr hlocks dX4_reach_41
      · rw [if_pos c5] at hf
        have h1 := Option.some.inj hf
        subst h1
        exact mm_retv F hH hr hlocks dX4_reach_19
/-! IslandHeap$Marking.drain()V -/
abbrev rm_X4_drain : Room := { frames := 2, cells := 0, slots := 0, locals := 51 }
set_option maxHeartbeats 4000000 in
theorem w_X4_drain_0 {p : Program} {l : Launch} {e : Env} {s : State} {m : MethodId} {av : Array Value} {below : List Frame} {meth : Method} {c : Code} {G : mm_G} {σf : mm_M} {n : Nat} {h0 : Nat} (F : mm_F p s m av c RX4 cX4_drain 6 G) (hr : meth.sig.returnType = (Option.none : Option Jvm.ClassFile.FieldType)) (hlocks : meth.locks = false) (hname : meth.name = yX4_drain.name) (IH0 : ∀  (σ : mm_M) (H : Heap) (locs : List Loc) (ls : Array Slot), mm_H G s σ H locs → lv_has ls 6 [(0, .ref h0)] → itn (s_X4_drain h0) n (.inl σ) = some σf → W p l e rm_X4_drain s m av below meth c H locs 0 0 (MQ below (mm_Qv G σf) av s 0 0 (mm_A G)) (F0 m 0 ls [])) (IH38 : ∀ (a2 : Nat) (x3 : Int32) (x4 : Int32) (σ : mm_M) (H : Heap) (locs : List Loc) (ls : Array Slot), mm_H G s σ H locs → lv_has ls 6 [(0, .ref h0), (2, .ref a2), (3, .int x3), (4, .int x4)] → itn (s_X4_drain h0) n (.inr (a2, x3, x4, σ)) = some σf → W p l e rm_X4_drain s m av below meth c H locs 0 0 (MQ below (mm_Qv G σf) av s 0 0 (mm_A G)) (F0 m 38 ls []))    (σ : mm_M) (hf : evn (s_X4_drain h0) n (g_X4_drain_0 h0 σ) = some σf) {H : Heap} {locs : List Loc} {ls : Array Slot} (hH : mm_H G s σ H locs) (hl : lv_has ls 6 [(0, .ref h0)]) : W p l e rm_X4_drain s m av below meth c H locs 0 0 (MQ below (mm_Qv G σf) av s 0 0 (mm_A G)) (F0 m 0 ls []) := by
  have hx := F.1
  have hb := F.2.1
  have hml := F.2.2.1
  have hown := F.2.2.2.1
  have hts := F.2.2.2.2.1
  unfold g_X4_drain_0 at hf
  refine lv_aload_n hx hb dX4_drain_0 rfl (lv_at hl 0 rfl) ?_
  replace hf := evn_b1 hf
  obtain ⟨v1, e1, hf⟩ := hf
  refine mm_getI F hH mc_4 (k := 4) (by decide) (hts _ q461) (fun _ h => h) e1 dX4_drain_1 ?_
  refine lv_if_le (tgt := 72) hx hb dX4_drain_4 (by decide) (fun c2 => ?_) (fun c2 => ?_)
  · rw [if_pos c2] at hf
    rw [evn_r] at hf
    have h1 := Option.some.inj hf
    subst h1
    exact mm_retv F hH hr hlocks dX4_drain_72
  · rw [if_neg c2] at hf
    refine lv_aload_n hx hb dX4_drain_7 rfl (lv_at hl 0 rfl) ?_
    refine lv_dup hx hb dX4_drain_8 rfl ?_
    replace hf := evn_b1 hf
    obtain ⟨v3, e2, hf⟩ := hf
    refine mm_getI F hH mc_4 (k := 4) (by decide) (hts _ q461) (fun _ h => h) e2 dX4_drain_9 ?_
    refine lv_iconst (v := 1) hx hb dX4_drain_12 (by decide) ?_
    refine lv_isub hx hb dX4_drain_13 ?_
    replace hf := evn_b1 hf
    obtain ⟨σ4, e3, hf⟩ := hf
    refine mm_put F hH mc_4 (k := 4) (v := vI (v3 - (1 : Int32))) (by decide) (hts _ q461) (fun _ h => h) rfl rfl rfl e3 dX4_drain_14 (fun H locs hH => ?_)
    refine lv_aload_n hx hb dX4_drain_17 rfl (lv_at hl 0 rfl) ?_
    replace hf := evn_b1 hf
    obtain ⟨q5, e4, hf⟩ := hf
    refine mm_getA F hH mc_4 (k := 2) (by decide) (hts _ q459) (fun _ h => h) e4 dX4_drain_18 ?_
    refine lv_aload_n hx hb dX4_drain_21 rfl (lv_at hl 0 rfl) ?_
    replace hf := evn_b1 hf
    obtain ⟨v6, e5, hf⟩ := hf
    refine mm_getI F hH mc_4 (k := 4) (by decide) (hts _ q461) (fun _ h => h) e5 dX4_drain_22 ?_
    replace hf := evn_b1 hf
    obtain ⟨p7, e6, hf⟩ := hf
    refine mm_aald F hH (k := 3) (by decide) e6 dX4_drain_25 ?_
    refine mm_astore_n (r := p7) (lv' := [(1, va_rf p7), (0, .ref h0)]) hx hb dX4_drain_26 rfl hl (by decide) rfl (fun ls hl => ?_)
    refine mm_aload_n (r := p7) hx hb dX4_drain_27 rfl (lv_at hl 0 rfl) ?_
    replace hf := evn_b1 hf
    obtain ⟨q8, e7, hf⟩ := hf
    subst e7
    replace hf := evn_b1 hf
    obtain ⟨q9, e8, hf⟩ := hf
    refine mm_getAN F hH mc_3 (k := 1) (by decide) q256 (fun _ h => h) e8 dX4_drain_28 ?_
    refine lv_astore_n (lv' := [(2, .ref q9), (1, .ref q8), (0, .ref h0)]) hx hb dX4_drain_31 rfl hl (by decide) rfl (fun ls hl => ?_)
    refine lv_aload_n hx hb dX4_drain_32 rfl (lv_at hl 0 rfl) ?_
    replace hf := evn_b1 hf
    obtain ⟨v10, e9, hf⟩ := hf
    refine mm_alen F hH e9 dX4_drain_33 ?_
    refine lv_istore_n (lv' := [(3, .int v10), (2, .ref q9), (1, .ref q8), (0, .ref h0)]) hx hb dX4_drain_34 rfl hl (by decide) rfl (fun ls hl => ?_)
    refine lv_iconst (v := 0) hx hb dX4_drain_35 (by decide) ?_
    refine lv_istore (lv' := [(4, .int (0 : Int32)), (3, .int v10), (2, .ref q9), (1, .ref q8), (0, .ref h0)]) hx hb dX4_drain_36 hl (by decide) rfl (fun ls hl => ?_)
    rw [evn_l] at hf
    exact IH38 q9 v10 (0 : Int32) σ4 _ _ _ hH (lv_sub hl [4, 2, 1, 0] rfl) hf
set_option maxHeartbeats 4000000 in
theorem w_X4_drain_38 {p : Program} {l : Launch} {e : Env} {s : State} {m : MethodId} {av : Array Value} {below : List Frame} {meth : Method} {c : Code} {G : mm_G} {σf : mm_M} {n : Nat} {h0 : Nat} (F : mm_F p s m av c RX4 cX4_drain 6 G) (hr : meth.sig.returnType = (Option.none : Option Jvm.ClassFile.FieldType)) (hlocks : meth.locks = false) (hname : meth.name = yX4_drain.name) (IH0 : ∀  (σ : mm_M) (H : Heap) (locs : List Loc) (ls : Array Slot), mm_H G s σ H locs → lv_has ls 6 [(0, .ref h0)] → itn (s_X4_drain h0) n (.inl σ) = some σf → W p l e rm_X4_drain s m av below meth c H locs 0 0 (MQ below (mm_Qv G σf) av s 0 0 (mm_A G)) (F0 m 0 ls [])) (IH38 : ∀ (a2 : Nat) (x3 : Int32) (x4 : Int32) (σ : mm_M) (H : Heap) (locs : List Loc) (ls : Array Slot), mm_H G s σ H locs → lv_has ls 6 [(0, .ref h0), (2, .ref a2), (3, .int x3), (4, .int x4)] → itn (s_X4_drain h0) n (.inr (a2, x3, x4, σ)) = some σf → W p l e rm_X4_drain s m av below meth c H locs 0 0 (MQ below (mm_Qv G σf) av s 0 0 (mm_A G)) (F0 m 38 ls []))  (a2 : Nat) (x3 : Int32) (x4 : Int32)  (σ : mm_M) (hf : evn (s_X4_drain h0) n (g_X4_drain_38 h0 a2 x3 x4 σ) = some σf) {H : Heap} {locs : List Loc} {ls : Array Slot} (hH : mm_H G s σ H locs) (hl : lv_has ls 6 [(0, .ref h0), (2, .ref a2), (3, .int x3), (4, .int x4)]) : W p l e rm_X4_drain s m av below meth c H locs 0 0 (MQ below (mm_Qv G σf) av s 0 0 (mm_A G)) (F0 m 38 ls []) := by
  have hx := F.1
  have hb := F.2.1
  have hml := F.2.2.1
  have hown := F.2.2.2.1
  have hts := F.2.2.2.2.1
  unfold g_X4_drain_38 at hf
  refine lv_iload hx hb dX4_drain_38 (lv_at hl 3 rfl) ?_
  refine lv_iload_n hx hb dX4_drain_40 rfl (lv_at hl 2 rfl) ?_
  refine lv_icmp_ge (tgt := 69) hx hb dX4_drain_41 (by decide) (fun c1 => ?_) (fun c1 => ?_)
  · rw [if_pos c1] at hf
    refine lv_goto (tgt := 0) hx hb dX4_drain_69 (by decide) ?_
    rw [evn_l] at hf
    exact IH0  σ _ _ _ hH (lv_sub hl [0] rfl) hf
  · rw [if_neg c1] at hf
    refine lv_aload_n hx hb dX4_drain_44 rfl (lv_at hl 1 rfl) ?_
    refine lv_iload hx hb dX4_drain_45 (lv_at hl 3 rfl) ?_
    replace hf := evn_b1 hf
    obtain ⟨v2, e1, hf⟩ := hf
    refine mm_iald F hH e1 dX4_drain_47 ?_
    refine lv_istore (lv' := [(5, .int v2), (0, .ref h0), (2, .ref a2), (3, .int x3), (4, .int x4)]) hx hb dX4_drain_48 hl (by decide) rfl (fun ls hl => ?_)
    refine lv_aload_n hx hb dX4_drain_50 rfl (lv_at hl 1 rfl) ?_
    refine lv_aload_n hx hb dX4_drain_51 rfl (lv_at hl 1 rfl) ?_
    replace hf := evn_b1 hf
    obtain ⟨q3, e2, hf⟩ := hf
    refine mm_getA F hH mc_4 (k := 0) (by decide) (hts _ q457) (fun _ h => h) e2 dX4_drain_52 ?_
    refine lv_iload hx hb dX4_drain_55 (lv_at hl 0 rfl) ?_
    replace hf := evn_b1 hf
    obtain ⟨u, e3, hf⟩ := hf
    obtain ⟨fs, ek⟩ := ck_i e3
    replace hf := evn_b1 hf
    obtain ⟨p4, e4, hf⟩ := hf
    refine mm_cq (va_runV (As := [.int v2]) (rest := [.ref h0]) ⟨hx, hb, hml, hown, hts⟩ (m_X1_target l G q3 v2 σ p4 e4) (cwV 1 hts (lw_V q491 q492 q493 q63 q494) rfl rfl rfl (by decide +kernel) ⟨Nat.le_of_ble_eq_true rfl, Nat.le_of_ble_eq_true rfl⟩) (mm_preV F.2.2.2.2.2 hH (ci := 1) rfl ek) rfl rfl hl.1 rfl (lv_room (Nat.le_of_ble_eq_true rfl)) dX4_drain_57 ⟨Nat.le_of_ble_eq_true rfl, Nat.le_of_ble_eq_true rfl⟩) hH (fun H locs hH => ?_)
    replace hf := evn_b1 hf
    obtain ⟨u, e5, hf⟩ := hf
    obtain ⟨fs, ek⟩ := ck_i e5
    replace hf := evn_b1 hf
    obtain ⟨σ5, e6, hf⟩ := hf
    refine mm_cv (va_runV (As := [va_rf p4]) (rest := []) ⟨hx, hb, hml, hown, hts⟩ (m_X4_reach l G h0 p4 σ σ5 e6) (cwV 1 hts (lw_V q499 q501 qs6 q77 q502) rfl rfl rfl (by decide +kernel) ⟨Nat.le_of_ble_eq_true rfl, Nat.le_of_ble_eq_true rfl⟩) (mm_preV F.2.2.2.2.2 hH (ci := 4) rfl ek) rfl rfl hl.1 rfl (lv_room (Nat.le_of_ble_eq_true rfl)) dX4_drain_60 ⟨Nat.le_of_ble_eq_true rfl, Nat.le_of_ble_eq_true rfl⟩) hH (fun H locs hH => ?_)
    refine lv_iinc (v := x4 + (1 : Int32)) (lv' := [(4, .int (x4 + (1 : Int32))), (5, .int v2), (0, .ref h0), (2, .ref a2), (3, .int x3)]) hx hb dX4_drain_63 hl (k := 4) rfl rfl (by decide) rfl (fun ls hl => ?_)
    refine lv_goto (tgt := 38) hx hb dX4_drain_66 (by decide) ?_
    rw [evn_l] at hf
    exact IH38 a2 x3 (x4 + (1 : Int32)) σ5 _ _ _ hH (lv_sub hl [2, 3, 4, 0] rfl) hf
set_option maxHeartbeats 4000000 in
theorem l_X4_drain {p : Program} {l : Launch} {e : Env} {s : State} {m : MethodId} {av : Array Value} {below : List Frame} {meth : Method} {c : Code} {G : mm_G} {σf : mm_M} {h0 : Nat} (F : mm_F p s m av c RX4 cX4_drain 6 G) (hr : meth.sig.returnType = (Option.none : Option Jvm.ClassFile.FieldType)) (hlocks : meth.locks = false) (hname : meth.name = yX4_drain.name) : ∀ n : Nat, (∀  (σ : mm_M) (H : Heap) (locs : List Loc) (ls : Array Slot), mm_H G s σ H locs → lv_has ls 6 [(0, .ref h0)] → itn (s_X4_drain h0) n (.inl σ) = some σf → W p l e rm_X4_drain s m av below meth c H locs 0 0 (MQ below (mm_Qv G σf) av s 0 0 (mm_A G)) (F0 m 0 ls [])) ∧ (∀ (a2 : Nat) (x3 : Int32) (x4 : Int32) (σ : mm_M) (H : Heap) (locs : List Loc) (ls : Array Slot), mm_H G s σ H locs → lv_has ls 6 [(0, .ref h0), (2, .ref a2), (3, .int x3), (4, .int x4)] → itn (s_X4_drain h0) n (.inr (a2, x3, x4, σ)) = some σf → W p l e rm_X4_drain s m av below meth c H locs 0 0 (MQ below (mm_Qv G σf) av s 0 0 (mm_A G)) (F0 m 38 ls [])) := by
  intro n
  induction n with
  | zero =>
    exact ⟨fun σ H locs ls hH hl hf => (by cases hf), fun a2 x3 x4 σ H locs ls hH hl hf => (by cases hf)⟩
  | succ n ih =>
    obtain ⟨IH0, IH38⟩ := ih
    refine ⟨?_, ?_⟩
    · intro σ H locs ls hH hl hf
      rw [itn_s] at hf
      exact w_X4_drain_0 F hr hlocks hname IH0 IH38 σ hf hH hl
    · intro a2 x3 x4 σ H locs ls hH hl hf
      rw [itn_s] at hf
      exact w_X4_drain_38 F hr hlocks hname IH0 IH38 a2 x3 x4 σ hf hH hl
set_option maxHeartbeats 4000000 in
theorem m_X4_drain (l : Launch) (G : mm_G) (h0 : Nat) (σ : mm_M) (σf : mm_M) (hf : f_X4_drain h0 σ = some σf) : Met l yX4_drain (ws_ yX4_drain cX4_drain 6 ((Option.none : Option Jvm.ClassFile.FieldType))) rm_X4_drain (mm_Pc G [.ref h0] σ) (mm_Qv G σf) 0 0 (mm_A G) := by
  refine mm_met (by decide) rfl rfl (by  exact Nat.le_of_ble_eq_true rfl) (fun p e s m below meth c ls F hH hr hlocks hname hl => ?_)
  have hl : lv_has ls 6 [(0, .ref h0)] := by  exact hl
  have F : mm_F p s m _ c RX4 cX4_drain 6 G := F
  unfold f_X4_drain at hf
  obtain ⟨n, hf⟩ := lgo_i hf
  have IH := l_X4_drain (l := l) (e := e) (below := below) (σf := σf) (h0 := h0) F hr hlocks hname n
  exact IH.1  σ _ _ _ hH (lv_sub hl [0] rfl) hf
/-! IslandHeap$Marking.start(LIslandHeap$Thing;)V -/
abbrev rm_X4_start : Room := { frames := 3, cells := 0, slots := 0, locals := 76 }
set_option maxHeartbeats 4000000 in
theorem m_X4_start (l : Launch) (G : mm_G) (h0 : Nat) (r1 : Option Nat) (σ : mm_M) (σf : mm_M) (hf : f_X4_start h0 r1 σ = some σf) : Met l yX4_start (ws_ yX4_start cX4_start 2 ((Option.none : Option Jvm.ClassFile.FieldType))) rm_X4_start (mm_Pc G [.ref h0, va_rf r1] σ) (mm_Qv G σf) 0 0 (mm_A G) := by
  refine mm_met (by decide) rfl rfl (by cases r1 <;> exact Nat.le_of_ble_eq_true rfl) (fun p e s m below meth c ls F hH hr hlocks hname hl => ?_)
  have hl : lv_has ls 2 [(0, .ref h0), (1, va_rf r1)] := by cases r1 <;> exact hl
  have F : mm_F p s m _ c RX4 cX4_start 2 G := F
  have hx := F.1
  have hb := F.2.1
  have hml := F.2.2.1
  have hown := F.2.2.2.1
  have hts := F.2.2.2.2.1
  unfold f_X4_start at hf
  refine lv_aload_n hx hb dX4_start_0 rfl (lv_at hl 0 rfl) ?_
  refine mm_aload_n (r := r1) hx hb dX4_start_1 rfl (lv_at hl 1 rfl) ?_
  replace hf := b1_i hf
  obtain ⟨u, e1, hf⟩ := hf
  obtain ⟨fs, ek⟩ := ck_i e1
  replace hf := b1_i hf
  obtain ⟨σ1, e2, hf⟩ := hf
  refine mm_cv (va_runV (As := [va_rf r1]) (rest := []) ⟨hx, hb, hml, hown, hts⟩ (m_X4_reach l G h0 r1 σ σ1 e2) (cwV 1 hts (lw_V q499 q501 qs6 q77 q502) rfl rfl rfl (by decide +kernel) ⟨Nat.le_of_ble_eq_true rfl, Nat.le_of_ble_eq_true rfl⟩) (mm_preV F.2.2.2.2.2 hH (ci := 4) rfl ek) rfl rfl hl.1 rfl (lv_room (Nat.le_of_ble_eq_true rfl)) dX4_start_2 ⟨Nat.le_of_ble_eq_true rfl, Nat.le_of_ble_eq_true rfl⟩) hH (fun H locs hH => ?_)
  refine lv_aload_n hx hb dX4_start_5 rfl (lv_at hl 0 rfl) ?_
  replace hf := b1_i hf
  obtain ⟨u, e3, hf⟩ := hf
  obtain ⟨fs, ek⟩ := ck_i e3
  replace hf := b1_i hf
  obtain ⟨σ2, e4, hf⟩ := hf
  refine mm_cv (va_runV (As := []) (rest := []) ⟨hx, hb, hml, hown, hts⟩ (m_X4_drain l G h0 σ1 σ2 e4) (cwV 0 hts (lw_V q504 q506 qs7 q77 q507) rfl rfl rfl (by decide +kernel) ⟨Nat.le_of_ble_eq_true rfl, Nat.le_of_ble_eq_true rfl⟩) (mm_preV F.2.2.2.2.2 hH (ci := 4) rfl ek) rfl rfl hl.1 rfl (lv_room (Nat.le_of_ble_eq_true rfl)) dX4_start_6 ⟨Nat.le_of_ble_eq_true rfl, Nat.le_of_ble_eq_true rfl⟩) hH (fun H locs hH => ?_)
  have h1 := Option.some.inj hf
  subst h1
  exact mm_retv F hH hr hlocks dX4_start_9
/-! IslandHeap$Marking.scan()V -/
abbrev rm_X4_scan : Room := { frames := 4, cells := 0, slots := 0, locals := 97 }
set_option maxHeartbeats 4000000 in
theorem w_X4_scan_17 {p : Program} {l : Launch} {e : Env} {s : State} {m : MethodId} {av : Array Value} {below : List Frame} {meth : Method} {c : Code} {G : mm_G} {σf : mm_M} {n : Nat} {h0 : Nat} (F : mm_F p s m av c RX4 cX4_scan 4 G) (hr : meth.sig.returnType = (Option.none : Option Jvm.ClassFile.FieldType)) (hlocks : meth.locks = false) (hname : meth.name = yX4_scan.name) (IH17 : ∀ (x1 : Int32) (σ : mm_M) (H : Heap) (locs : List Loc) (ls : Array Slot), mm_H G s σ H locs → lv_has ls 4 [(0, .ref h0), (1, .int x1)] → itn (s_X4_scan h0) n (.inl (x1, σ)) = some σf → W p l e rm_X4_scan s m av below meth c H locs 0 0 (MQ below (mm_Qv G σf) av s 0 0 (mm_A G)) (F0 m 17 ls [])) (IH48 : ∀ (x1 : Int32) (a2 : Nat) (x3 : Int32) (σ : mm_M) (H : Heap) (locs : List Loc) (ls : Array Slot), mm_H G s σ H locs → lv_has ls 4 [(0, .ref h0), (1, .int x1), (2, .ref a2), (3, .int x3)] → itn (s_X4_scan h0) n (.inr (x1, a2, x3, σ)) = some σf → W p l e rm_X4_scan s m av below meth c H locs 0 0 (MQ below (mm_Qv G σf) av s 0 0 (mm_A G)) (F0 m 48 ls []))  (x1 : Int32)  (σ : mm_M) (hf : evn (s_X4_scan h0) n (g_X4_scan_17 h0 x1 σ) = some σf) {H : Heap} {locs : List Loc} {ls : Array Slot} (hH : mm_H G s σ H locs) (hl : lv_has ls 4 [(0, .ref h0), (1, .int x1)]) : W p l e rm_X4_scan s m av below meth c H locs 0 0 (MQ below (mm_Qv G σf) av s 0 0 (mm_A G)) (F0 m 17 ls []) := by
  have hx := F.1
  have hb := F.2.1
  have hml := F.2.2.1
  have hown := F.2.2.2.1
  have hts := F.2.2.2.2.1
  unfold g_X4_scan_17 at hf
  refine lv_iload_n hx hb dX4_scan_17 rfl (lv_at hl 1 rfl) ?_
  refine lv_aload_n hx hb dX4_scan_18 rfl (lv_at hl 0 rfl) ?_
  replace hf := evn_b1 hf
  obtain ⟨q1, e1, hf⟩ := hf
  refine mm_getA F hH mc_4 (k := 0) (by decide) (hts _ q457) (fun _ h => h) e1 dX4_scan_19 ?_
  replace hf := evn_b1 hf
  obtain ⟨q2, e2, hf⟩ := hf
  refine mm_getAN F hH mc_1 (k := 2) (by decide) q138 (fun _ h => h) e2 dX4_scan_22 ?_
  replace hf := evn_b1 hf
  obtain ⟨u, e3, hf⟩ := hf
  obtain ⟨fs, ek⟩ := ck_i e3
  replace hf := evn_b1 hf
  obtain ⟨v3, e4, hf⟩ := hf
  refine mm_ci (va_runV (As := []) (rest := [.int x1]) ⟨hx, hb, hml, hown, hts⟩ (m_J2_size l G q2 σ v3 e4) (cwV 0 hts (lw_V q488 q291 q292 q66 q293) rfl rfl rfl (by decide +kernel) ⟨Nat.le_of_ble_eq_true rfl, Nat.le_of_ble_eq_true rfl⟩) (mm_preV F.2.2.2.2.2 hH (ci := 15) rfl ek) rfl rfl hl.1 rfl (lv_room (Nat.le_of_ble_eq_true rfl)) dX4_scan_25 ⟨Nat.le_of_ble_eq_true rfl, Nat.le_of_ble_eq_true rfl⟩) hH (fun H locs hH => ?_)
  refine lv_icmp_ge (tgt := 93) hx hb dX4_scan_28 (by decide) (fun c4 => ?_) (fun c4 => ?_)
  · rw [if_pos c4] at hf
    rw [evn_r] at hf
    have h1 := Option.some.inj hf
    subst h1
    exact mm_retv F hH hr hlocks dX4_scan_93
  · rw [if_neg c4] at hf
    refine lv_aload_n hx hb dX4_scan_31 rfl (lv_at hl 0 rfl) ?_
    replace hf := evn_b1 hf
    obtain ⟨q5, e5, hf⟩ := hf
    refine mm_getA F hH mc_4 (k := 0) (by decide) (hts _ q457) (fun _ h => h) e5 dX4_scan_32 ?_
    replace hf := evn_b1 hf
    obtain ⟨q6, e6, hf⟩ := hf
    refine mm_getAN F hH mc_1 (k := 2) (by decide) q138 (fun _ h => h) e6 dX4_scan_35 ?_
    refine lv_iload_n hx hb dX4_scan_38 rfl (lv_at hl 1 rfl) ?_
    replace hf := evn_b1 hf
    obtain ⟨u, e7, hf⟩ := hf
    obtain ⟨fs, ek⟩ := ck_i e7
    replace hf := evn_b1 hf
    obtain ⟨p7, e8, hf⟩ := hf
    refine mm_cq (va_runV (As := [.int x1]) (rest := []) ⟨hx, hb, hml, hown, hts⟩ (m_J2_get l G q6 x1 σ p7 e8) (cwV 1 hts (lw_V q489 q295 q296 q66 q297) rfl rfl rfl (by decide +kernel) ⟨Nat.le_of_ble_eq_true rfl, Nat.le_of_ble_eq_true rfl⟩) (mm_preV F.2.2.2.2.2 hH (ci := 15) rfl ek) rfl rfl hl.1 rfl (lv_room (Nat.le_of_ble_eq_true rfl)) dX4_scan_39 ⟨Nat.le_of_ble_eq_true rfl, Nat.le_of_ble_eq_true rfl⟩) hH (fun H locs hH => ?_)
    replace hf := evn_b1 hf
    obtain ⟨q8, e9, hf⟩ := hf
    subst e9
    replace hf := evn_b1 hf
    obtain ⟨u, e10, hf⟩ := hf
    refine mm_cast F hH mc_3 (hts _ q490) e10 dX4_scan_42 ?_
    refine lv_astore_n (lv' := [(2, .ref q8), (0, .ref h0), (1, .int x1)]) hx hb dX4_scan_45 rfl hl (by decide) rfl (fun ls hl => ?_)
    refine lv_iconst (v := 0) hx hb dX4_scan_46 (by decide) ?_
    refine lv_istore_n (lv' := [(3, .int (0 : Int32)), (2, .ref q8), (0, .ref h0), (1, .int x1)]) hx hb dX4_scan_47 rfl hl (by decide) rfl (fun ls hl => ?_)
    rw [evn_l] at hf
    exact IH48 x1 q8 (0 : Int32) σ _ _ _ hH (lv_sub hl [2, 3, 1, 0] rfl) hf
set_option maxHeartbeats 4000000 in
theorem w_X4_scan_48 {p : Program} {l : Launch} {e : Env} {s : State} {m : MethodId} {av : Array Value} {below : List Frame} {meth : Method} {c : Code} {G : mm_G} {σf : mm_M} {n : Nat} {h0 : Nat} (F : mm_F p s m av c RX4 cX4_scan 4 G) (hr : meth.sig.returnType = (Option.none : Option Jvm.ClassFile.FieldType)) (hlocks : meth.locks = false) (hname : meth.name = yX4_scan.name) (IH17 : ∀ (x1 : Int32) (σ : mm_M) (H : Heap) (locs : List Loc) (ls : Array Slot), mm_H G s σ H locs → lv_has ls 4 [(0, .ref h0), (1, .int x1)] → itn (s_X4_scan h0) n (.inl (x1, σ)) = some σf → W p l e rm_X4_scan s m av below meth c H locs 0 0 (MQ below (mm_Qv G σf) av s 0 0 (mm_A G)) (F0 m 17 ls [])) (IH48 : ∀ (x1 : Int32) (a2 : Nat) (x3 : Int32) (σ : mm_M) (H : Heap) (locs : List Loc) (ls : Array Slot), mm_H G s σ H locs → lv_has ls 4 [(0, .ref h0), (1, .int x1), (2, .ref a2), (3, .int x3)] → itn (s_X4_scan h0) n (.inr (x1, a2, x3, σ)) = some σf → W p l e rm_X4_scan s m av below meth c H locs 0 0 (MQ below (mm_Qv G σf) av s 0 0 (mm_A G)) (F0 m 48 ls []))  (x1 : Int32) (a2 : Nat) (x3 : Int32)  (σ : mm_M) (hf : evn (s_X4_scan h0) n (g_X4_scan_48 h0 x1 a2 x3 σ) = some σf) {H : Heap} {locs : List Loc} {ls : Array Slot} (hH : mm_H G s σ H locs) (hl : lv_has ls 4 [(0, .ref h0), (1, .int x1), (2, .ref a2), (3, .int x3)]) : W p l e rm_X4_scan s m av below meth c H locs 0 0 (MQ below (mm_Qv G σf) av s 0 0 (mm_A G)) (F0 m 48 ls []) := by
  have hx := F.1
  have hb := F.2.1
  have hml := F.2.2.1
  have hown := F.2.2.2.1
  have hts := F.2.2.2.2.1
  unfold g_X4_scan_48 at hf
  refine lv_iload_n hx hb dX4_scan_48 rfl (lv_at hl 3 rfl) ?_
  refine lv_aload_n hx hb dX4_scan_49 rfl (lv_at hl 2 rfl) ?_
  replace hf := evn_b1 hf
  obtain ⟨q1, e1, hf⟩ := hf
  refine mm_getAN F hH mc_3 (k := 1) (by decide) q256 (fun _ h => h) e1 dX4_scan_50 ?_
  replace hf := evn_b1 hf
  obtain ⟨v2, e2, hf⟩ := hf
  refine mm_alen F hH e2 dX4_scan_53 ?_
  refine lv_icmp_ge (tgt := 87) hx hb dX4_scan_54 (by decide) (fun c3 => ?_) (fun c3 => ?_)
  · rw [if_pos c3] at hf
    refine lv_iinc (v := x1 + (1 : Int32)) (lv' := [(1, .int (x1 + (1 : Int32))), (0, .ref h0), (2, .ref a2), (3, .int x3)]) hx hb dX4_scan_87 hl (k := 1) rfl rfl (by decide) rfl (fun ls hl => ?_)
    refine lv_goto (tgt := 17) hx hb dX4_scan_90 (by decide) ?_
    rw [evn_l] at hf
    exact IH17 (x1 + (1 : Int32)) σ _ _ _ hH (lv_sub hl [1, 0] rfl) hf
  · rw [if_neg c3] at hf
    refine lv_aload_n hx hb dX4_scan_57 rfl (lv_at hl 2 rfl) ?_
    replace hf := evn_b1 hf
    obtain ⟨v4, e3, hf⟩ := hf
    refine mm_getIN F hH mc_3 (k := 5) (by decide) q272 (fun _ h => h) e3 dX4_scan_58 ?_
    refine lv_if_eq (tgt := 87) hx hb dX4_scan_61 (by decide) (fun c5 => ?_) (fun c5 => ?_)
    · rw [if_pos c5] at hf
      refine lv_iinc (v := x1 + (1 : Int32)) (lv' := [(1, .int (x1 + (1 : Int32))), (0, .ref h0), (2, .ref a2), (3, .int x3)]) hx hb dX4_scan_87 hl (k := 1) rfl rfl (by decide) rfl (fun ls hl => ?_)
      refine lv_goto (tgt := 17) hx hb dX4_scan_90 (by decide) ?_
      rw [evn_l] at hf
      exact IH17 (x1 + (1 : Int32)) σ _ _ _ hH (lv_sub hl [1, 0] rfl) hf
    · rw [if_neg c5] at hf
      refine lv_aload_n hx hb dX4_scan_64 rfl (lv_at hl 0 rfl) ?_
      refine lv_aload_n hx hb dX4_scan_65 rfl (lv_at hl 0 rfl) ?_
      replace hf := evn_b1 hf
      obtain ⟨q6, e4, hf⟩ := hf
      refine mm_getA F hH mc_4 (k := 0) (by decide) (hts _ q457) (fun _ h => h) e4 dX4_scan_66 ?_
      refine lv_aload_n hx hb dX4_scan_69 rfl (lv_at hl 2 rfl) ?_
      replace hf := evn_b1 hf
      obtain ⟨q7, e5, hf⟩ := hf
      refine mm_getAN F hH mc_3 (k := 1) (by decide) q256 (fun _ h => h) e5 dX4_scan_70 ?_
      refine lv_iload_n hx hb dX4_scan_73 rfl (lv_at hl 3 rfl) ?_
      replace hf := evn_b1 hf
      obtain ⟨v8, e6, hf⟩ := hf
      refine mm_iald F hH e6 dX4_scan_74 ?_
      replace hf := evn_b1 hf
      obtain ⟨u, e7, hf⟩ := hf
      obtain ⟨fs, ek⟩ := ck_i e7
      replace hf := evn_b1 hf
      obtain ⟨p9, e8, hf⟩ := hf
      refine mm_cq (va_runV (As := [.int v8]) (rest := [.ref h0]) ⟨hx, hb, hml, hown, hts⟩ (m_X1_target l G q6 v8 σ p9 e8) (cwV 1 hts (lw_V q491 q492 q493 q63 q494) rfl rfl rfl (by decide +kernel) ⟨Nat.le_of_ble_eq_true rfl, Nat.le_of_ble_eq_true rfl⟩) (mm_preV F.2.2.2.2.2 hH (ci := 1) rfl ek) rfl rfl hl.1 rfl (lv_room (Nat.le_of_ble_eq_true rfl)) dX4_scan_75 ⟨Nat.le_of_ble_eq_true rfl, Nat.le_of_ble_eq_true rfl⟩) hH (fun H locs hH => ?_)
      replace hf := evn_b1 hf
      obtain ⟨u, e9, hf⟩ := hf
      obtain ⟨fs, ek⟩ := ck_i e9
      replace hf := evn_b1 hf
      obtain ⟨σ10, e10, hf⟩ := hf
      refine mm_cv (va_runV (As := [va_rf p9]) (rest := []) ⟨hx, hb, hml, hown, hts⟩ (m_X4_start l G h0 p9 σ σ10 e10) (cwV 1 hts (lw_V q495 q497 qs5 q77 q498) rfl rfl rfl (by decide +kernel) ⟨Nat.le_of_ble_eq_true rfl, Nat.le_of_ble_eq_true rfl⟩) (mm_preV F.2.2.2.2.2 hH (ci := 4) rfl ek) rfl rfl hl.1 rfl (lv_room (Nat.le_of_ble_eq_true rfl)) dX4_scan_78 ⟨Nat.le_of_ble_eq_true rfl, Nat.le_of_ble_eq_true rfl⟩) hH (fun H locs hH => ?_)
      refine lv_iinc (v := x3 + (1 : Int32)) (lv' := [(3, .int (x3 + (1 : Int32))), (0, .ref h0), (1, .int x1), (2, .ref a2)]) hx hb dX4_scan_81 hl (k := 3) rfl rfl (by decide) rfl (fun ls hl => ?_)
      refine lv_goto (tgt := 48) hx hb dX4_scan_84 (by decide) ?_
      rw [evn_l] at hf
      exact IH48 x1 a2 (x3 + (1 : Int32)) σ10 _ _ _ hH (lv_sub hl [1, 2, 3, 0] rfl) hf
set_option maxHeartbeats 4000000 in
theorem w_X4_scan_0 {p : Program} {l : Launch} {e : Env} {s : State} {m : MethodId} {av : Array Value} {below : List Frame} {meth : Method} {c : Code} {G : mm_G} {σf : mm_M} {n : Nat} {h0 : Nat} (F : mm_F p s m av c RX4 cX4_scan 4 G) (hr : meth.sig.returnType = (Option.none : Option Jvm.ClassFile.FieldType)) (hlocks : meth.locks = false) (hname : meth.name = yX4_scan.name) (IH17 : ∀ (x1 : Int32) (σ : mm_M) (H : Heap) (locs : List Loc) (ls : Array Slot), mm_H G s σ H locs → lv_has ls 4 [(0, .ref h0), (1, .int x1)] → itn (s_X4_scan h0) n (.inl (x1, σ)) = some σf → W p l e rm_X4_scan s m av below meth c H locs 0 0 (MQ below (mm_Qv G σf) av s 0 0 (mm_A G)) (F0 m 17 ls [])) (IH48 : ∀ (x1 : Int32) (a2 : Nat) (x3 : Int32) (σ : mm_M) (H : Heap) (locs : List Loc) (ls : Array Slot), mm_H G s σ H locs → lv_has ls 4 [(0, .ref h0), (1, .int x1), (2, .ref a2), (3, .int x3)] → itn (s_X4_scan h0) n (.inr (x1, a2, x3, σ)) = some σf → W p l e rm_X4_scan s m av below meth c H locs 0 0 (MQ below (mm_Qv G σf) av s 0 0 (mm_A G)) (F0 m 48 ls []))    (σ : mm_M) (hf : evn (s_X4_scan h0) n (g_X4_scan_0 h0 σ) = some σf) {H : Heap} {locs : List Loc} {ls : Array Slot} (hH : mm_H G s σ H locs) (hl : lv_has ls 4 [(0, .ref h0)]) : W p l e rm_X4_scan s m av below meth c H locs 0 0 (MQ below (mm_Qv G σf) av s 0 0 (mm_A G)) (F0 m 0 ls []) := by
  have hx := F.1
  have hb := F.2.1
  have hml := F.2.2.1
  have hown := F.2.2.2.1
  have hts := F.2.2.2.2.1
  unfold g_X4_scan_0 at hf
  refine lv_aload_n hx hb dX4_scan_0 rfl (lv_at hl 0 rfl) ?_
  refine lv_iconst (v := 0) hx hb dX4_scan_1 (by decide) ?_
  replace hf := evn_b1 hf
  obtain ⟨σ1, e1, hf⟩ := hf
  refine mm_put F hH mc_4 (k := 7) (v := vI (0 : Int32)) (by decide) (hts _ q466) (fun _ h => h) rfl rfl rfl e1 dX4_scan_2 (fun H locs hH => ?_)
  refine lv_aload_n hx hb dX4_scan_5 rfl (lv_at hl 0 rfl) ?_
  refine lv_dup hx hb dX4_scan_6 rfl ?_
  replace hf := evn_b1 hf
  obtain ⟨v2, e2, hf⟩ := hf
  refine mm_getI F hH mc_4 (k := 6) (by decide) (hts _ q464) (fun _ h => h) e2 dX4_scan_7 ?_
  refine lv_iconst (v := 1) hx hb dX4_scan_10 (by decide) ?_
  refine lv_iadd hx hb dX4_scan_11 ?_
  replace hf := evn_b1 hf
  obtain ⟨σ3, e3, hf⟩ := hf
  refine mm_put F hH mc_4 (k := 6) (v := vI (v2 + (1 : Int32))) (by decide) (hts _ q464) (fun _ h => h) rfl rfl rfl e3 dX4_scan_12 (fun H locs hH => ?_)
  refine lv_iconst (v := 0) hx hb dX4_scan_15 (by decide) ?_
  refine lv_istore_n (lv' := [(1, .int (0 : Int32)), (0, .ref h0)]) hx hb dX4_scan_16 rfl hl (by decide) rfl (fun ls hl => ?_)
  rw [evn_l] at hf
  exact IH17 (0 : Int32) σ3 _ _ _ hH (lv_sub hl [1, 0] rfl) hf
set_option maxHeartbeats 4000000 in
theorem l_X4_scan {p : Program} {l : Launch} {e : Env} {s : State} {m : MethodId} {av : Array Value} {below : List Frame} {meth : Method} {c : Code} {G : mm_G} {σf : mm_M} {h0 : Nat} (F : mm_F p s m av c RX4 cX4_scan 4 G) (hr : meth.sig.returnType = (Option.none : Option Jvm.ClassFile.FieldType)) (hlocks : meth.locks = false) (hname : meth.name = yX4_scan.name) : ∀ n : Nat, (∀ (x1 : Int32) (σ : mm_M) (H : Heap) (locs : List Loc) (ls : Array Slot), mm_H G s σ H locs → lv_has ls 4 [(0, .ref h0), (1, .int x1)] → itn (s_X4_scan h0) n (.inl (x1, σ)) = some σf → W p l e rm_X4_scan s m av below meth c H locs 0 0 (MQ below (mm_Qv G σf) av s 0 0 (mm_A G)) (F0 m 17 ls [])) ∧ (∀ (x1 : Int32) (a2 : Nat) (x3 : Int32) (σ : mm_M) (H : Heap) (locs : List Loc) (ls : Array Slot), mm_H G s σ H locs → lv_has ls 4 [(0, .ref h0), (1, .int x1), (2, .ref a2), (3, .int x3)] → itn (s_X4_scan h0) n (.inr (x1, a2, x3, σ)) = some σf → W p l e rm_X4_scan s m av below meth c H locs 0 0 (MQ below (mm_Qv G σf) av s 0 0 (mm_A G)) (F0 m 48 ls [])) := by
  intro n
  induction n with
  | zero =>
    exact ⟨fun x1 σ H locs ls hH hl hf => (by cases hf), fun x1 a2 x3 σ H locs ls hH hl hf => (by cases hf)⟩
  | succ n ih =>
    obtain ⟨IH17, IH48⟩ := ih
    refine ⟨?_, ?_⟩
    · intro x1 σ H locs ls hH hl hf
      rw [itn_s] at hf
      exact w_X4_scan_17 F hr hlocks hname IH17 IH48 x1 σ hf hH hl
    · intro x1 a2 x3 σ H locs ls hH hl hf
      rw [itn_s] at hf
      exact w_X4_scan_48 F hr hlocks hname IH17 IH48 x1 a2 x3 σ hf hH hl
set_option maxHeartbeats 4000000 in
theorem m_X4_scan (l : Launch) (G : mm_G) (h0 : Nat) (σ : mm_M) (σf : mm_M) (hf : f_X4_scan h0 σ = some σf) : Met l yX4_scan (ws_ yX4_scan cX4_scan 4 ((Option.none : Option Jvm.ClassFile.FieldType))) rm_X4_scan (mm_Pc G [.ref h0] σ) (mm_Qv G σf) 0 0 (mm_A G) := by
  refine mm_met (by decide) rfl rfl (by  exact Nat.le_of_ble_eq_true rfl) (fun p e s m below meth c ls F hH hr hlocks hname hl => ?_)
  have hl : lv_has ls 4 [(0, .ref h0)] := by  exact hl
  have F : mm_F p s m _ c RX4 cX4_scan 4 G := F
  unfold f_X4_scan at hf
  obtain ⟨n, hf⟩ := lgo_i hf
  have IH := l_X4_scan (l := l) (e := e) (below := below) (σf := σf) (h0 := h0) F hr hlocks hname n
  exact w_X4_scan_0 F hr hlocks hname IH.1 IH.2 σ hf hH (lv_sub hl [0] rfl)
/-! IslandHeap$Marking.mark()LIslandHeap$Marking; -/
abbrev rm_X4_mark : Room := { frames := 5, cells := 0, slots := 0, locals := 120 }
set_option maxHeartbeats 4000000 in
theorem w_X4_mark_2 {p : Program} {l : Launch} {e : Env} {s : State} {m : MethodId} {av : Array Value} {below : List Frame} {meth : Method} {c : Code} {G : mm_G} {σf : mm_M} {rr : Nat} {n : Nat} {h0 : Nat} (F : mm_F p s m av c RX4 cX4_mark 5 G) (hr : meth.sig.returnType = (Option.some (.object "IslandHeap$Marking"))) (hlocks : meth.locks = false) (hname : meth.name = yX4_mark.name) (IH2 : ∀ (x1 : Int32) (σ : mm_M) (H : Heap) (locs : List Loc) (ls : Array Slot), mm_H G s σ H locs → lv_has ls 5 [(0, .ref h0), (1, .int x1)] → itn (s_X4_mark h0) n (.inl (x1, σ)) = some (rr, σf) → W p l e rm_X4_mark s m av below meth c H locs 0 0 (MQ below (mm_Qq G (some rr) σf) av s 0 0 (mm_A G)) (F0 m 2 ls [])) (IH53 : ∀ (a1 : Nat) (x2 : Int32) (x3 : Int32) (σ : mm_M) (H : Heap) (locs : List Loc) (ls : Array Slot), mm_H G s σ H locs → lv_has ls 5 [(0, .ref h0), (1, .ref a1), (2, .int x2), (3, .int x3)] → itn (s_X4_mark h0) n (.inr (.inl (a1, x2, x3, σ))) = some (rr, σf) → W p l e rm_X4_mark s m av below meth c H locs 0 0 (MQ below (mm_Qq G (some rr) σf) av s 0 0 (mm_A G)) (F0 m 53 ls [])) (IH84 : ∀ (x1 : Int32) (σ : mm_M) (H : Heap) (locs : List Loc) (ls : Array Slot), mm_H G s σ H locs → lv_has ls 5 [(0, .ref h0), (1, .int x1)] → itn (s_X4_mark h0) n (.inr (.inr (.inl (x1, σ)))) = some (rr, σf) → W p l e rm_X4_mark s m av below meth c H locs 0 0 (MQ below (mm_Qq G (some rr) σf) av s 0 0 (mm_A G)) (F0 m 84 ls [])) (IH135 : ∀  (σ : mm_M) (H : Heap) (locs : List Loc) (ls : Array Slot), mm_H G s σ H locs → lv_has ls 5 [(0, .ref h0)] → itn (s_X4_mark h0) n (.inr (.inr (.inr σ))) = some (rr, σf) → W p l e rm_X4_mark s m av below meth c H locs 0 0 (MQ below (mm_Qq G (some rr) σf) av s 0 0 (mm_A G)) (F0 m 135 ls []))  (x1 : Int32)  (σ : mm_M) (hf : evn (s_X4_mark h0) n (g_X4_mark_2 h0 x1 σ) = some (rr, σf)) {H : Heap} {locs : List Loc} {ls : Array Slot} (hH : mm_H G s σ H locs) (hl : lv_has ls 5 [(0, .ref h0), (1, .int x1)]) : W p l e rm_X4_mark s m av below meth c H locs 0 0 (MQ below (mm_Qq G (some rr) σf) av s 0 0 (mm_A G)) (F0 m 2 ls []) := by
  have hx := F.1
  have hb := F.2.1
  have hml := F.2.2.1
  have hown := F.2.2.2.1
  have hts := F.2.2.2.2.1
  unfold g_X4_mark_2 at hf
  refine lv_iload_n hx hb dX4_mark_2 rfl (lv_at hl 1 rfl) ?_
  refine lv_aload_n hx hb dX4_mark_3 rfl (lv_at hl 0 rfl) ?_
  replace hf := evn_b1 hf
  obtain ⟨q1, e1, hf⟩ := hf
  refine mm_getA F hH mc_4 (k := 0) (by decide) (hts _ q457) (fun _ h => h) e1 dX4_mark_4 ?_
  replace hf := evn_b1 hf
  obtain ⟨q2, e2, hf⟩ := hf
  refine mm_getAN F hH mc_1 (k := 2) (by decide) q138 (fun _ h => h) e2 dX4_mark_7 ?_
  replace hf := evn_b1 hf
  obtain ⟨u, e3, hf⟩ := hf
  obtain ⟨fs, ek⟩ := ck_i e3
  replace hf := evn_b1 hf
  obtain ⟨v3, e4, hf⟩ := hf
  refine mm_ci (va_runV (As := []) (rest := [.int x1]) ⟨hx, hb, hml, hown, hts⟩ (m_J2_size l G q2 σ v3 e4) (cwV 0 hts (lw_V q488 q291 q292 q66 q293) rfl rfl rfl (by decide +kernel) ⟨Nat.le_of_ble_eq_true rfl, Nat.le_of_ble_eq_true rfl⟩) (mm_preV F.2.2.2.2.2 hH (ci := 15) rfl ek) rfl rfl hl.1 rfl (lv_room (Nat.le_of_ble_eq_true rfl)) dX4_mark_10 ⟨Nat.le_of_ble_eq_true rfl, Nat.le_of_ble_eq_true rfl⟩) hH (fun H locs hH => ?_)
  refine lv_icmp_ge (tgt := 40) hx hb dX4_mark_13 (by decide) (fun c4 => ?_) (fun c4 => ?_)
  · rw [if_pos c4] at hf
    refine lv_aload_n hx hb dX4_mark_40 rfl (lv_at hl 0 rfl) ?_
    replace hf := evn_b1 hf
    obtain ⟨q5, e5, hf⟩ := hf
    refine mm_getA F hH mc_4 (k := 0) (by decide) (hts _ q457) (fun _ h => h) e5 dX4_mark_41 ?_
    replace hf := evn_b1 hf
    obtain ⟨q6, e6, hf⟩ := hf
    refine mm_getAN F hH mc_1 (k := 4) (by decide) q144 (fun _ h => h) e6 dX4_mark_44 ?_
    refine lv_astore_n (lv' := [(1, .ref q6), (0, .ref h0)]) hx hb dX4_mark_47 rfl hl (by decide) rfl (fun ls hl => ?_)
    refine lv_aload_n hx hb dX4_mark_48 rfl (lv_at hl 0 rfl) ?_
    replace hf := evn_b1 hf
    obtain ⟨v7, e7, hf⟩ := hf
    refine mm_alen F hH e7 dX4_mark_49 ?_
    refine lv_istore_n (lv' := [(2, .int v7), (1, .ref q6), (0, .ref h0)]) hx hb dX4_mark_50 rfl hl (by decide) rfl (fun ls hl => ?_)
    refine lv_iconst (v := 0) hx hb dX4_mark_51 (by decide) ?_
    refine lv_istore_n (lv' := [(3, .int (0 : Int32)), (2, .int v7), (1, .ref q6), (0, .ref h0)]) hx hb dX4_mark_52 rfl hl (by decide) rfl (fun ls hl => ?_)
    rw [evn_l] at hf
    exact IH53 q6 v7 (0 : Int32) σ _ _ _ hH (lv_sub hl [3, 2, 1, 0] rfl) hf
  · rw [if_neg c4] at hf
    refine lv_aload_n hx hb dX4_mark_16 rfl (lv_at hl 0 rfl) ?_
    replace hf := evn_b1 hf
    obtain ⟨q8, e8, hf⟩ := hf
    refine mm_getA F hH mc_4 (k := 0) (by decide) (hts _ q457) (fun _ h => h) e8 dX4_mark_17 ?_
    replace hf := evn_b1 hf
    obtain ⟨q9, e9, hf⟩ := hf
    refine mm_getAN F hH mc_1 (k := 2) (by decide) q138 (fun _ h => h) e9 dX4_mark_20 ?_
    refine lv_iload_n hx hb dX4_mark_23 rfl (lv_at hl 1 rfl) ?_
    replace hf := evn_b1 hf
    obtain ⟨u, e10, hf⟩ := hf
    obtain ⟨fs, ek⟩ := ck_i e10
    replace hf := evn_b1 hf
    obtain ⟨p10, e11, hf⟩ := hf
    refine mm_cq (va_runV (As := [.int x1]) (rest := []) ⟨hx, hb, hml, hown, hts⟩ (m_J2_get l G q9 x1 σ p10 e11) (cwV 1 hts (lw_V q489 q295 q296 q66 q297) rfl rfl rfl (by decide +kernel) ⟨Nat.le_of_ble_eq_true rfl, Nat.le_of_ble_eq_true rfl⟩) (mm_preV F.2.2.2.2.2 hH (ci := 15) rfl ek) rfl rfl hl.1 rfl (lv_room (Nat.le_of_ble_eq_true rfl)) dX4_mark_24 ⟨Nat.le_of_ble_eq_true rfl, Nat.le_of_ble_eq_true rfl⟩) hH (fun H locs hH => ?_)
    replace hf := evn_b1 hf
    obtain ⟨q11, e12, hf⟩ := hf
    subst e12
    replace hf := evn_b1 hf
    obtain ⟨u, e13, hf⟩ := hf
    refine mm_cast F hH mc_3 (hts _ q490) e13 dX4_mark_27 ?_
    refine lv_iconst (v := 0) hx hb dX4_mark_30 (by decide) ?_
    replace hf := evn_b1 hf
    obtain ⟨σ12, e14, hf⟩ := hf
    refine mm_putN F hH mc_3 (k := 5) (v := vI (0 : Int32)) (by decide) q272 (fun _ h => h) rfl rfl rfl e14 dX4_mark_31 (fun H locs hH => ?_)
    refine lv_iinc (v := x1 + (1 : Int32)) (lv' := [(1, .int (x1 + (1 : Int32))), (0, .ref h0)]) hx hb dX4_mark_34 hl (k := 1) rfl rfl (by decide) rfl (fun ls hl => ?_)
    refine lv_goto (tgt := 2) hx hb dX4_mark_37 (by decide) ?_
    rw [evn_l] at hf
    exact IH2 (x1 + (1 : Int32)) σ12 _ _ _ hH (lv_sub hl [1, 0] rfl) hf
set_option maxHeartbeats 4000000 in
theorem w_X4_mark_53 {p : Program} {l : Launch} {e : Env} {s : State} {m : MethodId} {av : Array Value} {below : List Frame} {meth : Method} {c : Code} {G : mm_G} {σf : mm_M} {rr : Nat} {n : Nat} {h0 : Nat} (F : mm_F p s m av c RX4 cX4_mark 5 G) (hr : meth.sig.returnType = (Option.some (.object "IslandHeap$Marking"))) (hlocks : meth.locks = false) (hname : meth.name = yX4_mark.name) (IH2 : ∀ (x1 : Int32) (σ : mm_M) (H : Heap) (locs : List Loc) (ls : Array Slot), mm_H G s σ H locs → lv_has ls 5 [(0, .ref h0), (1, .int x1)] → itn (s_X4_mark h0) n (.inl (x1, σ)) = some (rr, σf) → W p l e rm_X4_mark s m av below meth c H locs 0 0 (MQ below (mm_Qq G (some rr) σf) av s 0 0 (mm_A G)) (F0 m 2 ls [])) (IH53 : ∀ (a1 : Nat) (x2 : Int32) (x3 : Int32) (σ : mm_M) (H : Heap) (locs : List Loc) (ls : Array Slot), mm_H G s σ H locs → lv_has ls 5 [(0, .ref h0), (1, .ref a1), (2, .int x2), (3, .int x3)] → itn (s_X4_mark h0) n (.inr (.inl (a1, x2, x3, σ))) = some (rr, σf) → W p l e rm_X4_mark s m av below meth c H locs 0 0 (MQ below (mm_Qq G (some rr) σf) av s 0 0 (mm_A G)) (F0 m 53 ls [])) (IH84 : ∀ (x1 : Int32) (σ : mm_M) (H : Heap) (locs : List Loc) (ls : Array Slot), mm_H G s σ H locs → lv_has ls 5 [(0, .ref h0), (1, .int x1)] → itn (s_X4_mark h0) n (.inr (.inr (.inl (x1, σ)))) = some (rr, σf) → W p l e rm_X4_mark s m av below meth c H locs 0 0 (MQ below (mm_Qq G (some rr) σf) av s 0 0 (mm_A G)) (F0 m 84 ls [])) (IH135 : ∀  (σ : mm_M) (H : Heap) (locs : List Loc) (ls : Array Slot), mm_H G s σ H locs → lv_has ls 5 [(0, .ref h0)] → itn (s_X4_mark h0) n (.inr (.inr (.inr σ))) = some (rr, σf) → W p l e rm_X4_mark s m av below meth c H locs 0 0 (MQ below (mm_Qq G (some rr) σf) av s 0 0 (mm_A G)) (F0 m 135 ls []))  (a1 : Nat) (x2 : Int32) (x3 : Int32)  (σ : mm_M) (hf : evn (s_X4_mark h0) n (g_X4_mark_53 h0 a1 x2 x3 σ) = some (rr, σf)) {H : Heap} {locs : List Loc} {ls : Array Slot} (hH : mm_H G s σ H locs) (hl : lv_has ls 5 [(0, .ref h0), (1, .ref a1), (2, .int x2), (3, .int x3)]) : W p l e rm_X4_mark s m av below meth c H locs 0 0 (MQ below (mm_Qq G (some rr) σf) av s 0 0 (mm_A G)) (F0 m 53 ls []) := by
  have hx := F.1
  have hb := F.2.1
  have hml := F.2.2.1
  have hown := F.2.2.2.1
  have hts := F.2.2.2.2.1
  unfold g_X4_mark_53 at hf
  refine lv_iload_n hx hb dX4_mark_53 rfl (lv_at hl 3 rfl) ?_
  refine lv_iload_n hx hb dX4_mark_54 rfl (lv_at hl 2 rfl) ?_
  refine lv_icmp_ge (tgt := 82) hx hb dX4_mark_55 (by decide) (fun c1 => ?_) (fun c1 => ?_)
  · rw [if_pos c1] at hf
    refine lv_iconst (v := 0) hx hb dX4_mark_82 (by decide) ?_
    refine lv_istore_n (lv' := [(1, .int (0 : Int32)), (0, .ref h0), (2, .int x2), (3, .int x3)]) hx hb dX4_mark_83 rfl hl (by decide) rfl (fun ls hl => ?_)
    rw [evn_l] at hf
    exact IH84 (0 : Int32) σ _ _ _ hH (lv_sub hl [1, 0] rfl) hf
  · rw [if_neg c1] at hf
    refine lv_aload_n hx hb dX4_mark_58 rfl (lv_at hl 1 rfl) ?_
    refine lv_iload_n hx hb dX4_mark_59 rfl (lv_at hl 3 rfl) ?_
    replace hf := evn_b1 hf
    obtain ⟨v2, e1, hf⟩ := hf
    refine mm_iald F hH e1 dX4_mark_60 ?_
    refine lv_istore (lv' := [(4, .int v2), (0, .ref h0), (1, .ref a1), (2, .int x2), (3, .int x3)]) hx hb dX4_mark_61 hl (by decide) rfl (fun ls hl => ?_)
    refine lv_aload_n hx hb dX4_mark_63 rfl (lv_at hl 1 rfl) ?_
    refine lv_aload_n hx hb dX4_mark_64 rfl (lv_at hl 1 rfl) ?_
    replace hf := evn_b1 hf
    obtain ⟨q3, e2, hf⟩ := hf
    refine mm_getA F hH mc_4 (k := 0) (by decide) (hts _ q457) (fun _ h => h) e2 dX4_mark_65 ?_
    refine lv_iload hx hb dX4_mark_68 (lv_at hl 0 rfl) ?_
    replace hf := evn_b1 hf
    obtain ⟨u, e3, hf⟩ := hf
    obtain ⟨fs, ek⟩ := ck_i e3
    replace hf := evn_b1 hf
    obtain ⟨p4, e4, hf⟩ := hf
    refine mm_cq (va_runV (As := [.int v2]) (rest := [.ref h0]) ⟨hx, hb, hml, hown, hts⟩ (m_X1_target l G q3 v2 σ p4 e4) (cwV 1 hts (lw_V q491 q492 q493 q63 q494) rfl rfl rfl (by decide +kernel) ⟨Nat.le_of_ble_eq_true rfl, Nat.le_of_ble_eq_true rfl⟩) (mm_preV F.2.2.2.2.2 hH (ci := 1) rfl ek) rfl rfl hl.1 rfl (lv_room (Nat.le_of_ble_eq_true rfl)) dX4_mark_70 ⟨Nat.le_of_ble_eq_true rfl, Nat.le_of_ble_eq_true rfl⟩) hH (fun H locs hH => ?_)
    replace hf := evn_b1 hf
    obtain ⟨u, e5, hf⟩ := hf
    obtain ⟨fs, ek⟩ := ck_i e5
    replace hf := evn_b1 hf
    obtain ⟨σ5, e6, hf⟩ := hf
    refine mm_cv (va_runV (As := [va_rf p4]) (rest := []) ⟨hx, hb, hml, hown, hts⟩ (m_X4_start l G h0 p4 σ σ5 e6) (cwV 1 hts (lw_V q495 q497 qs5 q77 q498) rfl rfl rfl (by decide +kernel) ⟨Nat.le_of_ble_eq_true rfl, Nat.le_of_ble_eq_true rfl⟩) (mm_preV F.2.2.2.2.2 hH (ci := 4) rfl ek) rfl rfl hl.1 rfl (lv_room (Nat.le_of_ble_eq_true rfl)) dX4_mark_73 ⟨Nat.le_of_ble_eq_true rfl, Nat.le_of_ble_eq_true rfl⟩) hH (fun H locs hH => ?_)
    refine lv_iinc (v := x3 + (1 : Int32)) (lv' := [(3, .int (x3 + (1 : Int32))), (4, .int v2), (0, .ref h0), (1, .ref a1), (2, .int x2)]) hx hb dX4_mark_76 hl (k := 4) rfl rfl (by decide) rfl (fun ls hl => ?_)
    refine lv_goto (tgt := 53) hx hb dX4_mark_79 (by decide) ?_
    rw [evn_l] at hf
    exact IH53 a1 x2 (x3 + (1 : Int32)) σ5 _ _ _ hH (lv_sub hl [2, 3, 4, 0] rfl) hf
set_option maxHeartbeats 4000000 in
theorem w_X4_mark_84 {p : Program} {l : Launch} {e : Env} {s : State} {m : MethodId} {av : Array Value} {below : List Frame} {meth : Method} {c : Code} {G : mm_G} {σf : mm_M} {rr : Nat} {n : Nat} {h0 : Nat} (F : mm_F p s m av c RX4 cX4_mark 5 G) (hr : meth.sig.returnType = (Option.some (.object "IslandHeap$Marking"))) (hlocks : meth.locks = false) (hname : meth.name = yX4_mark.name) (IH2 : ∀ (x1 : Int32) (σ : mm_M) (H : Heap) (locs : List Loc) (ls : Array Slot), mm_H G s σ H locs → lv_has ls 5 [(0, .ref h0), (1, .int x1)] → itn (s_X4_mark h0) n (.inl (x1, σ)) = some (rr, σf) → W p l e rm_X4_mark s m av below meth c H locs 0 0 (MQ below (mm_Qq G (some rr) σf) av s 0 0 (mm_A G)) (F0 m 2 ls [])) (IH53 : ∀ (a1 : Nat) (x2 : Int32) (x3 : Int32) (σ : mm_M) (H : Heap) (locs : List Loc) (ls : Array Slot), mm_H G s σ H locs → lv_has ls 5 [(0, .ref h0), (1, .ref a1), (2, .int x2), (3, .int x3)] → itn (s_X4_mark h0) n (.inr (.inl (a1, x2, x3, σ))) = some (rr, σf) → W p l e rm_X4_mark s m av below meth c H locs 0 0 (MQ below (mm_Qq G (some rr) σf) av s 0 0 (mm_A G)) (F0 m 53 ls [])) (IH84 : ∀ (x1 : Int32) (σ : mm_M) (H : Heap) (locs : List Loc) (ls : Array Slot), mm_H G s σ H locs → lv_has ls 5 [(0, .ref h0), (1, .int x1)] → itn (s_X4_mark h0) n (.inr (.inr (.inl (x1, σ)))) = some (rr, σf) → W p l e rm_X4_mark s m av below meth c H locs 0 0 (MQ below (mm_Qq G (some rr) σf) av s 0 0 (mm_A G)) (F0 m 84 ls [])) (IH135 : ∀  (σ : mm_M) (H : Heap) (locs : List Loc) (ls : Array Slot), mm_H G s σ H locs → lv_has ls 5 [(0, .ref h0)] → itn (s_X4_mark h0) n (.inr (.inr (.inr σ))) = some (rr, σf) → W p l e rm_X4_mark s m av below meth c H locs 0 0 (MQ below (mm_Qq G (some rr) σf) av s 0 0 (mm_A G)) (F0 m 135 ls []))  (x1 : Int32)  (σ : mm_M) (hf : evn (s_X4_mark h0) n (g_X4_mark_84 h0 x1 σ) = some (rr, σf)) {H : Heap} {locs : List Loc} {ls : Array Slot} (hH : mm_H G s σ H locs) (hl : lv_has ls 5 [(0, .ref h0), (1, .int x1)]) : W p l e rm_X4_mark s m av below meth c H locs 0 0 (MQ below (mm_Qq G (some rr) σf) av s 0 0 (mm_A G)) (F0 m 84 ls []) := by
  have hx := F.1
  have hb := F.2.1
  have hml := F.2.2.1
  have hown := F.2.2.2.1
  have hts := F.2.2.2.2.1
  unfold g_X4_mark_84 at hf
  refine lv_iload_n hx hb dX4_mark_84 rfl (lv_at hl 1 rfl) ?_
  refine lv_aload_n hx hb dX4_mark_85 rfl (lv_at hl 0 rfl) ?_
  replace hf := evn_b1 hf
  obtain ⟨q1, e1, hf⟩ := hf
  refine mm_getA F hH mc_4 (k := 0) (by decide) (hts _ q457) (fun _ h => h) e1 dX4_mark_86 ?_
  replace hf := evn_b1 hf
  obtain ⟨q2, e2, hf⟩ := hf
  refine mm_getAN F hH mc_1 (k := 2) (by decide) q138 (fun _ h => h) e2 dX4_mark_89 ?_
  replace hf := evn_b1 hf
  obtain ⟨u, e3, hf⟩ := hf
  obtain ⟨fs, ek⟩ := ck_i e3
  replace hf := evn_b1 hf
  obtain ⟨v3, e4, hf⟩ := hf
  refine mm_ci (va_runV (As := []) (rest := [.int x1]) ⟨hx, hb, hml, hown, hts⟩ (m_J2_size l G q2 σ v3 e4) (cwV 0 hts (lw_V q488 q291 q292 q66 q293) rfl rfl rfl (by decide +kernel) ⟨Nat.le_of_ble_eq_true rfl, Nat.le_of_ble_eq_true rfl⟩) (mm_preV F.2.2.2.2.2 hH (ci := 15) rfl ek) rfl rfl hl.1 rfl (lv_room (Nat.le_of_ble_eq_true rfl)) dX4_mark_92 ⟨Nat.le_of_ble_eq_true rfl, Nat.le_of_ble_eq_true rfl⟩) hH (fun H locs hH => ?_)
  refine lv_icmp_ge (tgt := 135) hx hb dX4_mark_95 (by decide) (fun c4 => ?_) (fun c4 => ?_)
  · rw [if_pos c4] at hf
    rw [evn_l] at hf
    exact IH135  σ _ _ _ hH (lv_sub hl [0] rfl) hf
  · rw [if_neg c4] at hf
    refine lv_aload_n hx hb dX4_mark_98 rfl (lv_at hl 0 rfl) ?_
    replace hf := evn_b1 hf
    obtain ⟨q5, e5, hf⟩ := hf
    refine mm_getA F hH mc_4 (k := 0) (by decide) (hts _ q457) (fun _ h => h) e5 dX4_mark_99 ?_
    replace hf := evn_b1 hf
    obtain ⟨q6, e6, hf⟩ := hf
    refine mm_getAN F hH mc_1 (k := 2) (by decide) q138 (fun _ h => h) e6 dX4_mark_102 ?_
    refine lv_iload_n hx hb dX4_mark_105 rfl (lv_at hl 1 rfl) ?_
    replace hf := evn_b1 hf
    obtain ⟨u, e7, hf⟩ := hf
    obtain ⟨fs, ek⟩ := ck_i e7
    replace hf := evn_b1 hf
    obtain ⟨p7, e8, hf⟩ := hf
    refine mm_cq (va_runV (As := [.int x1]) (rest := []) ⟨hx, hb, hml, hown, hts⟩ (m_J2_get l G q6 x1 σ p7 e8) (cwV 1 hts (lw_V q489 q295 q296 q66 q297) rfl rfl rfl (by decide +kernel) ⟨Nat.le_of_ble_eq_true rfl, Nat.le_of_ble_eq_true rfl⟩) (mm_preV F.2.2.2.2.2 hH (ci := 15) rfl ek) rfl rfl hl.1 rfl (lv_room (Nat.le_of_ble_eq_true rfl)) dX4_mark_106 ⟨Nat.le_of_ble_eq_true rfl, Nat.le_of_ble_eq_true rfl⟩) hH (fun H locs hH => ?_)
    replace hf := evn_b1 hf
    obtain ⟨q8, e9, hf⟩ := hf
    subst e9
    replace hf := evn_b1 hf
    obtain ⟨u, e10, hf⟩ := hf
    refine mm_cast F hH mc_3 (hts _ q490) e10 dX4_mark_109 ?_
    refine lv_astore_n (lv' := [(2, .ref q8), (0, .ref h0), (1, .int x1)]) hx hb dX4_mark_112 rfl hl (by decide) rfl (fun ls hl => ?_)
    refine lv_aload_n hx hb dX4_mark_113 rfl (lv_at hl 1 rfl) ?_
    refine lv_aload_n hx hb dX4_mark_114 rfl (lv_at hl 0 rfl) ?_
    replace hf := evn_b1 hf
    obtain ⟨v9, e11, hf⟩ := hf
    refine mm_getIN F hH mc_3 (k := 3) (by decide) q266 (fun _ h => h) e11 dX4_mark_115 ?_
    refine lv_if_eq (tgt := 125) hx hb dX4_mark_118 (by decide) (fun c10 => ?_) (fun c10 => ?_)
    · rw [if_pos c10] at hf
      refine lv_null hx hb dX4_mark_125 ?_
      replace hf := evn_b1 hf
      obtain ⟨u, e12, hf⟩ := hf
      obtain ⟨fs, ek⟩ := ck_i e12
      replace hf := evn_b1 hf
      obtain ⟨σ11, e13, hf⟩ := hf
      refine mm_cv (va_runV (As := [va_rf none]) (rest := []) ⟨hx, hb, hml, hown, hts⟩ (m_X4_start l G h0 none σ σ11 e13) (cwV 1 hts (lw_V q495 q497 qs5 q77 q498) rfl rfl rfl (by decide +kernel) ⟨Nat.le_of_ble_eq_true rfl, Nat.le_of_ble_eq_true rfl⟩) (mm_preV F.2.2.2.2.2 hH (ci := 4) rfl ek) rfl rfl hl.1 rfl (lv_room (Nat.le_of_ble_eq_true rfl)) dX4_mark_126 ⟨Nat.le_of_ble_eq_true rfl, Nat.le_of_ble_eq_true rfl⟩) hH (fun H locs hH => ?_)
      refine lv_iinc (v := x1 + (1 : Int32)) (lv' := [(1, .int (x1 + (1 : Int32))), (2, .ref q8), (0, .ref h0)]) hx hb dX4_mark_129 hl (k := 2) rfl rfl (by decide) rfl (fun ls hl => ?_)
      refine lv_goto (tgt := 84) hx hb dX4_mark_132 (by decide) ?_
      rw [evn_l] at hf
      exact IH84 (x1 + (1 : Int32)) σ11 _ _ _ hH (lv_sub hl [2, 0] rfl) hf
    · rw [if_neg c10] at hf
      refine lv_aload_n hx hb dX4_mark_121 rfl (lv_at hl 0 rfl) ?_
      refine lv_goto (tgt := 126) hx hb dX4_mark_122 (by decide) ?_
      replace hf := evn_b1 hf
      obtain ⟨u, e14, hf⟩ := hf
      obtain ⟨fs, ek⟩ := ck_i e14
      replace hf := evn_b1 hf
      obtain ⟨σ12, e15, hf⟩ := hf
      refine mm_cv (va_runV (As := [va_rf (some q8)]) (rest := []) ⟨hx, hb, hml, hown, hts⟩ (m_X4_start l G h0 (some q8) σ σ12 e15) (cwV 1 hts (lw_V q495 q497 qs5 q77 q498) rfl rfl rfl (by decide +kernel) ⟨Nat.le_of_ble_eq_true rfl, Nat.le_of_ble_eq_true rfl⟩) (mm_preV F.2.2.2.2.2 hH (ci := 4) rfl ek) rfl rfl hl.1 rfl (lv_room (Nat.le_of_ble_eq_true rfl)) dX4_mark_126 ⟨Nat.le_of_ble_eq_true rfl, Nat.le_of_ble_eq_true rfl⟩) hH (fun H locs hH => ?_)
      refine lv_iinc (v := x1 + (1 : Int32)) (lv' := [(1, .int (x1 + (1 : Int32))), (2, .ref q8), (0, .ref h0)]) hx hb dX4_mark_129 hl (k := 2) rfl rfl (by decide) rfl (fun ls hl => ?_)
      refine lv_goto (tgt := 84) hx hb dX4_mark_132 (by decide) ?_
      rw [evn_l] at hf
      exact IH84 (x1 + (1 : Int32)) σ12 _ _ _ hH (lv_sub hl [2, 0] rfl) hf
set_option maxHeartbeats 4000000 in
theorem w_X4_mark_135 {p : Program} {l : Launch} {e : Env} {s : State} {m : MethodId} {av : Array Value} {below : List Frame} {meth : Method} {c : Code} {G : mm_G} {σf : mm_M} {rr : Nat} {n : Nat} {h0 : Nat} (F : mm_F p s m av c RX4 cX4_mark 5 G) (hr : meth.sig.returnType = (Option.some (.object "IslandHeap$Marking"))) (hlocks : meth.locks = false) (hname : meth.name = yX4_mark.name) (IH2 : ∀ (x1 : Int32) (σ : mm_M) (H : Heap) (locs : List Loc) (ls : Array Slot), mm_H G s σ H locs → lv_has ls 5 [(0, .ref h0), (1, .int x1)] → itn (s_X4_mark h0) n (.inl (x1, σ)) = some (rr, σf) → W p l e rm_X4_mark s m av below meth c H locs 0 0 (MQ below (mm_Qq G (some rr) σf) av s 0 0 (mm_A G)) (F0 m 2 ls [])) (IH53 : ∀ (a1 : Nat) (x2 : Int32) (x3 : Int32) (σ : mm_M) (H : Heap) (locs : List Loc) (ls : Array Slot), mm_H G s σ H locs → lv_has ls 5 [(0, .ref h0), (1, .ref a1), (2, .int x2), (3, .int x3)] → itn (s_X4_mark h0) n (.inr (.inl (a1, x2, x3, σ))) = some (rr, σf) → W p l e rm_X4_mark s m av below meth c H locs 0 0 (MQ below (mm_Qq G (some rr) σf) av s 0 0 (mm_A G)) (F0 m 53 ls [])) (IH84 : ∀ (x1 : Int32) (σ : mm_M) (H : Heap) (locs : List Loc) (ls : Array Slot), mm_H G s σ H locs → lv_has ls 5 [(0, .ref h0), (1, .int x1)] → itn (s_X4_mark h0) n (.inr (.inr (.inl (x1, σ)))) = some (rr, σf) → W p l e rm_X4_mark s m av below meth c H locs 0 0 (MQ below (mm_Qq G (some rr) σf) av s 0 0 (mm_A G)) (F0 m 84 ls [])) (IH135 : ∀  (σ : mm_M) (H : Heap) (locs : List Loc) (ls : Array Slot), mm_H G s σ H locs → lv_has ls 5 [(0, .ref h0)] → itn (s_X4_mark h0) n (.inr (.inr (.inr σ))) = some (rr, σf) → W p l e rm_X4_mark s m av below meth c H locs 0 0 (MQ below (mm_Qq G (some rr) σf) av s 0 0 (mm_A G)) (F0 m 135 ls []))    (σ : mm_M) (hf : evn (s_X4_mark h0) n (g_X4_mark_135 h0 σ) = some (rr, σf)) {H : Heap} {locs : List Loc} {ls : Array Slot} (hH : mm_H G s σ H locs) (hl : lv_has ls 5 [(0, .ref h0)]) : W p l e rm_X4_mark s m av below meth c H locs 0 0 (MQ below (mm_Qq G (some rr) σf) av s 0 0 (mm_A G)) (F0 m 135 ls []) := by
  have hx := F.1
  have hb := F.2.1
  have hml := F.2.2.1
  have hown := F.2.2.2.1
  have hts := F.2.2.2.2.1
  unfold g_X4_mark_135 at hf
  refine lv_aload_n hx hb dX4_mark_135 rfl (lv_at hl 0 rfl) ?_
  replace hf := evn_b1 hf
  obtain ⟨v1, e1, hf⟩ := hf
  refine mm_getI F hH mc_4 (k := 7) (by decide) (hts _ q466) (fun _ h => h) e1 dX4_mark_136 ?_
  refine lv_if_eq (tgt := 149) hx hb dX4_mark_139 (by decide) (fun c2 => ?_) (fun c2 => ?_)
  · rw [if_pos c2] at hf
    refine lv_aload_n hx hb dX4_mark_149 rfl (lv_at hl 0 rfl) ?_
    rw [evn_r] at hf
    obtain ⟨h1, h2⟩ := Prod.mk.inj (Option.some.inj hf)
    subst h1
    subst h2
    exact mm_retq (v := some h0) F hH hr hlocks (Or.inl ⟨_, rfl⟩) rfl dX4_mark_150
  · rw [if_neg c2] at hf
    refine lv_aload_n hx hb dX4_mark_142 rfl (lv_at hl 0 rfl) ?_
    replace hf := evn_b1 hf
    obtain ⟨u, e2, hf⟩ := hf
    obtain ⟨fs, ek⟩ := ck_i e2
    replace hf := evn_b1 hf
    obtain ⟨σ3, e3, hf⟩ := hf
    refine mm_cv (va_runV (As := []) (rest := []) ⟨hx, hb, hml, hown, hts⟩ (m_X4_scan l G h0 σ σ3 e3) (cwV 0 hts (lw_V q508 q510 qs8 q77 q511) rfl rfl rfl (by decide +kernel) ⟨Nat.le_of_ble_eq_true rfl, Nat.le_of_ble_eq_true rfl⟩) (mm_preV F.2.2.2.2.2 hH (ci := 4) rfl ek) rfl rfl hl.1 rfl (lv_room (Nat.le_of_ble_eq_true rfl)) dX4_mark_143 ⟨Nat.le_of_ble_eq_true rfl, Nat.le_of_ble_eq_true rfl⟩) hH (fun H locs hH => ?_)
    refine lv_goto (tgt := 135) hx hb dX4_mark_146 (by decide) ?_
    rw [evn_l] at hf
    exact IH135  σ3 _ _ _ hH (lv_sub hl [0] rfl) hf
set_option maxHeartbeats 4000000 in
theorem w_X4_mark_0 {p : Program} {l : Launch} {e : Env} {s : State} {m : MethodId} {av : Array Value} {below : List Frame} {meth : Method} {c : Code} {G : mm_G} {σf : mm_M} {rr : Nat} {n : Nat} {h0 : Nat} (F : mm_F p s m av c RX4 cX4_mark 5 G) (hr : meth.sig.returnType = (Option.some (.object "IslandHeap$Marking"))) (hlocks : meth.locks = false) (hname : meth.name = yX4_mark.name) (IH2 : ∀ (x1 : Int32) (σ : mm_M) (H : Heap) (locs : List Loc) (ls : Array Slot), mm_H G s σ H locs → lv_has ls 5 [(0, .ref h0), (1, .int x1)] → itn (s_X4_mark h0) n (.inl (x1, σ)) = some (rr, σf) → W p l e rm_X4_mark s m av below meth c H locs 0 0 (MQ below (mm_Qq G (some rr) σf) av s 0 0 (mm_A G)) (F0 m 2 ls [])) (IH53 : ∀ (a1 : Nat) (x2 : Int32) (x3 : Int32) (σ : mm_M) (H : Heap) (locs : List Loc) (ls : Array Slot), mm_H G s σ H locs → lv_has ls 5 [(0, .ref h0), (1, .ref a1), (2, .int x2), (3, .int x3)] → itn (s_X4_mark h0) n (.inr (.inl (a1, x2, x3, σ))) = some (rr, σf) → W p l e rm_X4_mark s m av below meth c H locs 0 0 (MQ below (mm_Qq G (some rr) σf) av s 0 0 (mm_A G)) (F0 m 53 ls [])) (IH84 : ∀ (x1 : Int32) (σ : mm_M) (H : Heap) (locs : List Loc) (ls : Array Slot), mm_H G s σ H locs → lv_has ls 5 [(0, .ref h0), (1, .int x1)] → itn (s_X4_mark h0) n (.inr (.inr (.inl (x1, σ)))) = some (rr, σf) → W p l e rm_X4_mark s m av below meth c H locs 0 0 (MQ below (mm_Qq G (some rr) σf) av s 0 0 (mm_A G)) (F0 m 84 ls [])) (IH135 : ∀  (σ : mm_M) (H : Heap) (locs : List Loc) (ls : Array Slot), mm_H G s σ H locs → lv_has ls 5 [(0, .ref h0)] → itn (s_X4_mark h0) n (.inr (.inr (.inr σ))) = some (rr, σf) → W p l e rm_X4_mark s m av below meth c H locs 0 0 (MQ below (mm_Qq G (some rr) σf) av s 0 0 (mm_A G)) (F0 m 135 ls []))    (σ : mm_M) (hf : evn (s_X4_mark h0) n (g_X4_mark_0 h0 σ) = some (rr, σf)) {H : Heap} {locs : List Loc} {ls : Array Slot} (hH : mm_H G s σ H locs) (hl : lv_has ls 5 [(0, .ref h0)]) : W p l e rm_X4_mark s m av below meth c H locs 0 0 (MQ below (mm_Qq G (some rr) σf) av s 0 0 (mm_A G)) (F0 m 0 ls []) := by
  have hx := F.1
  have hb := F.2.1
  have hml := F.2.2.1
  have hown := F.2.2.2.1
  have hts := F.2.2.2.2.1
  unfold g_X4_mark_0 at hf
  refine lv_iconst (v := 0) hx hb dX4_mark_0 (by decide) ?_
  refine lv_istore_n (lv' := [(1, .int (0 : Int32)), (0, .ref h0)]) hx hb dX4_mark_1 rfl hl (by decide) rfl (fun ls hl => ?_)
  rw [evn_l] at hf
  exact IH2 (0 : Int32) σ _ _ _ hH (lv_sub hl [1, 0] rfl) hf
set_option maxHeartbeats 4000000 in
theorem l_X4_mark {p : Program} {l : Launch} {e : Env} {s : State} {m : MethodId} {av : Array Value} {below : List Frame} {meth : Method} {c : Code} {G : mm_G} {σf : mm_M} {rr : Nat} {h0 : Nat} (F : mm_F p s m av c RX4 cX4_mark 5 G) (hr : meth.sig.returnType = (Option.some (.object "IslandHeap$Marking"))) (hlocks : meth.locks = false) (hname : meth.name = yX4_mark.name) : ∀ n : Nat, (∀ (x1 : Int32) (σ : mm_M) (H : Heap) (locs : List Loc) (ls : Array Slot), mm_H G s σ H locs → lv_has ls 5 [(0, .ref h0), (1, .int x1)] → itn (s_X4_mark h0) n (.inl (x1, σ)) = some (rr, σf) → W p l e rm_X4_mark s m av below meth c H locs 0 0 (MQ below (mm_Qq G (some rr) σf) av s 0 0 (mm_A G)) (F0 m 2 ls [])) ∧ (∀ (a1 : Nat) (x2 : Int32) (x3 : Int32) (σ : mm_M) (H : Heap) (locs : List Loc) (ls : Array Slot), mm_H G s σ H locs → lv_has ls 5 [(0, .ref h0), (1, .ref a1), (2, .int x2), (3, .int x3)] → itn (s_X4_mark h0) n (.inr (.inl (a1, x2, x3, σ))) = some (rr, σf) → W p l e rm_X4_mark s m av below meth c H locs 0 0 (MQ below (mm_Qq G (some rr) σf) av s 0 0 (mm_A G)) (F0 m 53 ls [])) ∧ (∀ (x1 : Int32) (σ : mm_M) (H : Heap) (locs : List Loc) (ls : Array Slot), mm_H G s σ H locs → lv_has ls 5 [(0, .ref h0), (1, .int x1)] → itn (s_X4_mark h0) n (.inr (.inr (.inl (x1, σ)))) = some (rr, σf) → W p l e rm_X4_mark s m av below meth c H locs 0 0 (MQ below (mm_Qq G (some rr) σf) av s 0 0 (mm_A G)) (F0 m 84 ls [])) ∧ (∀  (σ : mm_M) (H : Heap) (locs : List Loc) (ls : Array Slot), mm_H G s σ H locs → lv_has ls 5 [(0, .ref h0)] → itn (s_X4_mark h0) n (.inr (.inr (.inr σ))) = some (rr, σf) → W p l e rm_X4_mark s m av below meth c H locs 0 0 (MQ below (mm_Qq G (some rr) σf) av s 0 0 (mm_A G)) (F0 m 135 ls [])) := by
  intro n
  induction n with
  | zero =>
    exact ⟨fun x1 σ H locs ls hH hl hf => (by cases hf), fun a1 x2 x3 σ H locs ls hH hl hf => (by cases hf), fun x1 σ H locs ls hH hl hf => (by cases hf), fun σ H locs ls hH hl hf => (by cases hf)⟩
  | succ n ih =>
    obtain ⟨IH2, IH53, IH84, IH135⟩ := ih
    refine ⟨?_, ?_, ?_, ?_⟩
    · intro x1 σ H locs ls hH hl hf
      rw [itn_s] at hf
      exact w_X4_mark_2 F hr hlocks hname IH2 IH53 IH84 IH135 x1 σ hf hH hl
    · intro a1 x2 x3 σ H locs ls hH hl hf
      rw [itn_s] at hf
      exact w_X4_mark_53 F hr hlocks hname IH2 IH53 IH84 IH135 a1 x2 x3 σ hf hH hl
    · intro x1 σ H locs ls hH hl hf
      rw [itn_s] at hf
      exact w_X4_mark_84 F hr hlocks hname IH2 IH53 IH84 IH135 x1 σ hf hH hl
    · intro σ H locs ls hH hl hf
      rw [itn_s] at hf
      exact w_X4_mark_135 F hr hlocks hname IH2 IH53 IH84 IH135 σ hf hH hl
set_option maxHeartbeats 4000000 in
theorem m_X4_mark (l : Launch) (G : mm_G) (h0 : Nat) (σ : mm_M) (σf : mm_M) (rr : Nat) (hf : f_X4_mark h0 σ = some (rr, σf)) : Met l yX4_mark (ws_ yX4_mark cX4_mark 5 ((Option.some (.object "IslandHeap$Marking")))) rm_X4_mark (mm_Pc G [.ref h0] σ) (mm_Qq G (some rr) σf) 0 0 (mm_A G) := by
  refine mm_met (by decide) rfl rfl (by  exact Nat.le_of_ble_eq_true rfl) (fun p e s m below meth c ls F hH hr hlocks hname hl => ?_)
  have hl : lv_has ls 5 [(0, .ref h0)] := by  exact hl
  have F : mm_F p s m _ c RX4 cX4_mark 5 G := F
  unfold f_X4_mark at hf
  obtain ⟨n, hf⟩ := lgo_i hf
  have IH := l_X4_mark (l := l) (e := e) (below := below) (rr := rr) (σf := σf) (h0 := h0) F hr hlocks hname n
  exact w_X4_mark_0 F hr hlocks hname IH.1 IH.2.1 IH.2.2.1 IH.2.2.2 σ hf hH (lv_sub hl [0] rfl)
