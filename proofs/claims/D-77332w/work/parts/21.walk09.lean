/-! WALKS -/
set_option maxRecDepth 100000
/-! IslandHeapModel.collect()I -/
abbrev rm_X2_collect : Room := { frames := 6, cells := 0, slots := 0, locals := 131 }
set_option maxHeartbeats 4000000 in
theorem w_X2_collect_12 {p : Program} {l : Launch} {e : Env} {s : State} {m : MethodId} {av : Array Value} {below : List Frame} {meth : Method} {c : Code} {G : mm_G} {σf : mm_M} {rr : Int32} {n : Nat} {h0 : Nat} (F : mm_F p s m av c RX2 cX2_collect 11 G) (hr : meth.sig.returnType = (Option.some .int)) (hlocks : meth.locks = false) (hname : meth.name = yX2_collect.name) (IH12 : ∀ (x1 : Int32) (x2 : Int32) (x3 : Int32) (σ : mm_M) (H : Heap) (locs : List Loc) (ls : Array Slot), mm_H G s σ H locs → lv_has ls 11 [(0, .ref h0), (1, .int x1), (2, .int x2), (3, .int x3)] → itn (s_X2_collect h0) n (.inl (x1, x2, x3, σ)) = some (rr, σf) → W p l e rm_X2_collect s m av below meth c H locs 0 0 (MQ below (mm_Qi G rr σf) av s 0 0 (mm_A G)) (F0 m 12 ls [])) (IH39 : ∀ (x1 : Int32) (x2 : Int32) (x3 : Int32) (σ : mm_M) (H : Heap) (locs : List Loc) (ls : Array Slot), mm_H G s σ H locs → lv_has ls 11 [(0, .ref h0), (1, .int x1), (2, .int x2), (3, .int x3)] → itn (s_X2_collect h0) n (.inr (.inl (x1, x2, x3, σ))) = some (rr, σf) → W p l e rm_X2_collect s m av below meth c H locs 0 0 (MQ below (mm_Qi G rr σf) av s 0 0 (mm_A G)) (F0 m 39 ls [])) (IH80 : ∀ (x1 : Int32) (x2 : Int32) (x3 : Int32) (x4 : Int32) (x5 : Int32) (x6 : Int32) (x7 : Int32) (x8 : Int32) (σ : mm_M) (H : Heap) (locs : List Loc) (ls : Array Slot), mm_H G s σ H locs → lv_has ls 11 [(0, .ref h0), (1, .int x1), (2, .int x2), (3, .int x3), (4, .int x4), (5, .int x5), (6, .int x6), (7, .int x7), (8, .int x8)] → itn (s_X2_collect h0) n (.inr (.inr (.inl (x1, x2, x3, x4, x5, x6, x7, x8, σ)))) = some (rr, σf) → W p l e rm_X2_collect s m av below meth c H locs 0 0 (MQ below (mm_Qi G rr σf) av s 0 0 (mm_A G)) (F0 m 80 ls [])) (IH141 : ∀ (x1 : Int32) (x2 : Int32) (x4 : Int32) (x5 : Int32) (x6 : Int32) (x7 : Int32) (x8 : Int32) (x9 : Int32) (x10 : Int32) (σ : mm_M) (H : Heap) (locs : List Loc) (ls : Array Slot), mm_H G s σ H locs → lv_has ls 11 [(0, .ref h0), (1, .int x1), (2, .int x2), (4, .int x4), (5, .int x5), (6, .int x6), (7, .int x7), (8, .int x8), (9, .int x9), (10, .int x10)] → itn (s_X2_collect h0) n (.inr (.inr (.inr (x1, x2, x4, x5, x6, x7, x8, x9, x10, σ)))) = some (rr, σf) → W p l e rm_X2_collect s m av below meth c H locs 0 0 (MQ below (mm_Qi G rr σf) av s 0 0 (mm_A G)) (F0 m 141 ls []))  (x1 : Int32) (x2 : Int32) (x3 : Int32)  (σ : mm_M) (hf : evn (s_X2_collect h0) n (g_X2_collect_12 h0 x1 x2 x3 σ) = some (rr, σf)) {H : Heap} {locs : List Loc} {ls : Array Slot} (hH : mm_H G s σ H locs) (hl : lv_has ls 11 [(0, .ref h0), (1, .int x1), (2, .int x2), (3, .int x3)]) : W p l e rm_X2_collect s m av below meth c H locs 0 0 (MQ below (mm_Qi G rr σf) av s 0 0 (mm_A G)) (F0 m 12 ls []) := by
  have hx := F.1
  have hb := F.2.1
  have hml := F.2.2.1
  have hown := F.2.2.2.1
  have hts := F.2.2.2.2.1
  unfold g_X2_collect_12 at hf
  refine lv_iload_n hx hb dX2_collect_12 rfl (lv_at hl 3 rfl) ?_
  refine lv_sipush (v := 1222) hx hb dX2_collect_13 (by decide) ?_
  refine lv_icmp_ge (tgt := 37) hx hb dX2_collect_16 (by decide) (fun c1 => ?_) (fun c1 => ?_)
  · rw [if_pos c1] at hf
    refine lv_iconst (v := 0) hx hb dX2_collect_37 (by decide) ?_
    refine lv_istore_n (lv' := [(3, .int (0 : Int32)), (0, .ref h0), (1, .int x1), (2, .int x2)]) hx hb dX2_collect_38 rfl hl (by decide) rfl (fun ls hl => ?_)
    rw [evn_l] at hf
    exact IH39 x1 x2 (0 : Int32) σ _ _ _ hH (lv_sub hl [1, 2, 3, 0] rfl) hf
  · rw [if_neg c1] at hf
    refine lv_aload_n hx hb dX2_collect_19 rfl (lv_at hl 0 rfl) ?_
    replace hf := evn_b1 hf
    obtain ⟨q2, e1, hf⟩ := hf
    refine mm_getA F hH mc_2 (k := 1) (by decide) (hts _ q1048) (fun _ h => h) e1 dX2_collect_20 ?_
    refine lv_iload_n hx hb dX2_collect_23 rfl (lv_at hl 3 rfl) ?_
    refine lv_aload_n hx hb dX2_collect_24 rfl (lv_at hl 0 rfl) ?_
    replace hf := evn_b1 hf
    obtain ⟨q3, e2, hf⟩ := hf
    refine mm_getA F hH mc_2 (k := 0) (by decide) (hts _ q1047) (fun _ h => h) e2 dX2_collect_25 ?_
    refine lv_iload_n hx hb dX2_collect_28 rfl (lv_at hl 3 rfl) ?_
    replace hf := evn_b1 hf
    obtain ⟨v4, e3, hf⟩ := hf
    refine mm_iald F hH e3 dX2_collect_29 ?_
    replace hf := evn_b1 hf
    obtain ⟨σ5, e4, hf⟩ := hf
    refine mm_iast F hH e4 dX2_collect_30 (fun H locs hH => ?_)
    refine lv_iinc (v := x3 + (1 : Int32)) (lv' := [(3, .int (x3 + (1 : Int32))), (0, .ref h0), (1, .int x1), (2, .int x2)]) hx hb dX2_collect_31 hl (k := 3) rfl rfl (by decide) rfl (fun ls hl => ?_)
    refine lv_goto (tgt := 12) hx hb dX2_collect_34 (by decide) ?_
    rw [evn_l] at hf
    exact IH12 x1 x2 (x3 + (1 : Int32)) σ5 _ _ _ hH (lv_sub hl [1, 2, 3, 0] rfl) hf
set_option maxHeartbeats 4000000 in
theorem w_X2_collect_39 {p : Program} {l : Launch} {e : Env} {s : State} {m : MethodId} {av : Array Value} {below : List Frame} {meth : Method} {c : Code} {G : mm_G} {σf : mm_M} {rr : Int32} {n : Nat} {h0 : Nat} (F : mm_F p s m av c RX2 cX2_collect 11 G) (hr : meth.sig.returnType = (Option.some .int)) (hlocks : meth.locks = false) (hname : meth.name = yX2_collect.name) (IH12 : ∀ (x1 : Int32) (x2 : Int32) (x3 : Int32) (σ : mm_M) (H : Heap) (locs : List Loc) (ls : Array Slot), mm_H G s σ H locs → lv_has ls 11 [(0, .ref h0), (1, .int x1), (2, .int x2), (3, .int x3)] → itn (s_X2_collect h0) n (.inl (x1, x2, x3, σ)) = some (rr, σf) → W p l e rm_X2_collect s m av below meth c H locs 0 0 (MQ below (mm_Qi G rr σf) av s 0 0 (mm_A G)) (F0 m 12 ls [])) (IH39 : ∀ (x1 : Int32) (x2 : Int32) (x3 : Int32) (σ : mm_M) (H : Heap) (locs : List Loc) (ls : Array Slot), mm_H G s σ H locs → lv_has ls 11 [(0, .ref h0), (1, .int x1), (2, .int x2), (3, .int x3)] → itn (s_X2_collect h0) n (.inr (.inl (x1, x2, x3, σ))) = some (rr, σf) → W p l e rm_X2_collect s m av below meth c H locs 0 0 (MQ below (mm_Qi G rr σf) av s 0 0 (mm_A G)) (F0 m 39 ls [])) (IH80 : ∀ (x1 : Int32) (x2 : Int32) (x3 : Int32) (x4 : Int32) (x5 : Int32) (x6 : Int32) (x7 : Int32) (x8 : Int32) (σ : mm_M) (H : Heap) (locs : List Loc) (ls : Array Slot), mm_H G s σ H locs → lv_has ls 11 [(0, .ref h0), (1, .int x1), (2, .int x2), (3, .int x3), (4, .int x4), (5, .int x5), (6, .int x6), (7, .int x7), (8, .int x8)] → itn (s_X2_collect h0) n (.inr (.inr (.inl (x1, x2, x3, x4, x5, x6, x7, x8, σ)))) = some (rr, σf) → W p l e rm_X2_collect s m av below meth c H locs 0 0 (MQ below (mm_Qi G rr σf) av s 0 0 (mm_A G)) (F0 m 80 ls [])) (IH141 : ∀ (x1 : Int32) (x2 : Int32) (x4 : Int32) (x5 : Int32) (x6 : Int32) (x7 : Int32) (x8 : Int32) (x9 : Int32) (x10 : Int32) (σ : mm_M) (H : Heap) (locs : List Loc) (ls : Array Slot), mm_H G s σ H locs → lv_has ls 11 [(0, .ref h0), (1, .int x1), (2, .int x2), (4, .int x4), (5, .int x5), (6, .int x6), (7, .int x7), (8, .int x8), (9, .int x9), (10, .int x10)] → itn (s_X2_collect h0) n (.inr (.inr (.inr (x1, x2, x4, x5, x6, x7, x8, x9, x10, σ)))) = some (rr, σf) → W p l e rm_X2_collect s m av below meth c H locs 0 0 (MQ below (mm_Qi G rr σf) av s 0 0 (mm_A G)) (F0 m 141 ls []))  (x1 : Int32) (x2 : Int32) (x3 : Int32)  (σ : mm_M) (hf : evn (s_X2_collect h0) n (g_X2_collect_39 h0 x1 x2 x3 σ) = some (rr, σf)) {H : Heap} {locs : List Loc} {ls : Array Slot} (hH : mm_H G s σ H locs) (hl : lv_has ls 11 [(0, .ref h0), (1, .int x1), (2, .int x2), (3, .int x3)]) : W p l e rm_X2_collect s m av below meth c H locs 0 0 (MQ below (mm_Qi G rr σf) av s 0 0 (mm_A G)) (F0 m 39 ls []) := by
  have hx := F.1
  have hb := F.2.1
  have hml := F.2.2.1
  have hown := F.2.2.2.1
  have hts := F.2.2.2.2.1
  unfold g_X2_collect_39 at hf
  refine lv_iload_n hx hb dX2_collect_39 rfl (lv_at hl 3 rfl) ?_
  refine lv_sipush (v := 200) hx hb dX2_collect_40 (by decide) ?_
  refine lv_icmp_ge (tgt := 63) hx hb dX2_collect_43 (by decide) (fun c1 => ?_) (fun c1 => ?_)
  · rw [if_pos c1] at hf
    refine lv_iconst (v := 0) hx hb dX2_collect_63 (by decide) ?_
    refine lv_istore_n (lv' := [(3, .int (0 : Int32)), (0, .ref h0), (1, .int x1), (2, .int x2)]) hx hb dX2_collect_64 rfl hl (by decide) rfl (fun ls hl => ?_)
    refine lv_iconst (v := 0) hx hb dX2_collect_65 (by decide) ?_
    refine lv_istore (lv' := [(4, .int (0 : Int32)), (3, .int (0 : Int32)), (0, .ref h0), (1, .int x1), (2, .int x2)]) hx hb dX2_collect_66 hl (by decide) rfl (fun ls hl => ?_)
    refine lv_iconst (v := 0) hx hb dX2_collect_68 (by decide) ?_
    refine lv_istore (lv' := [(5, .int (0 : Int32)), (4, .int (0 : Int32)), (3, .int (0 : Int32)), (0, .ref h0), (1, .int x1), (2, .int x2)]) hx hb dX2_collect_69 hl (by decide) rfl (fun ls hl => ?_)
    refine lv_iconst (v := 0) hx hb dX2_collect_71 (by decide) ?_
    refine lv_istore (lv' := [(6, .int (0 : Int32)), (5, .int (0 : Int32)), (4, .int (0 : Int32)), (3, .int (0 : Int32)), (0, .ref h0), (1, .int x1), (2, .int x2)]) hx hb dX2_collect_72 hl (by decide) rfl (fun ls hl => ?_)
    refine lv_iconst (v := 0) hx hb dX2_collect_74 (by decide) ?_
    refine lv_istore (lv' := [(7, .int (0 : Int32)), (6, .int (0 : Int32)), (5, .int (0 : Int32)), (4, .int (0 : Int32)), (3, .int (0 : Int32)), (0, .ref h0), (1, .int x1), (2, .int x2)]) hx hb dX2_collect_75 hl (by decide) rfl (fun ls hl => ?_)
    refine lv_iconst (v := 0) hx hb dX2_collect_77 (by decide) ?_
    refine lv_istore (lv' := [(8, .int (0 : Int32)), (7, .int (0 : Int32)), (6, .int (0 : Int32)), (5, .int (0 : Int32)), (4, .int (0 : Int32)), (3, .int (0 : Int32)), (0, .ref h0), (1, .int x1), (2, .int x2)]) hx hb dX2_collect_78 hl (by decide) rfl (fun ls hl => ?_)
    rw [evn_l] at hf
    exact IH80 x1 x2 (0 : Int32) (0 : Int32) (0 : Int32) (0 : Int32) (0 : Int32) (0 : Int32) σ _ _ _ hH (lv_sub hl [6, 7, 8, 5, 4, 3, 2, 1, 0] rfl) hf
  · rw [if_neg c1] at hf
    refine lv_aload_n hx hb dX2_collect_46 rfl (lv_at hl 0 rfl) ?_
    replace hf := evn_b1 hf
    obtain ⟨q2, e1, hf⟩ := hf
    refine mm_getA F hH mc_2 (k := 0) (by decide) (hts _ q1047) (fun _ h => h) e1 dX2_collect_47 ?_
    refine lv_sipush (v := 1000) hx hb dX2_collect_50 (by decide) ?_
    refine lv_iload_n hx hb dX2_collect_53 rfl (lv_at hl 3 rfl) ?_
    refine lv_iadd hx hb dX2_collect_54 ?_
    refine lv_iconst (v := (-1)) hx hb dX2_collect_55 (by decide) ?_
    replace hf := evn_b1 hf
    obtain ⟨σ3, e2, hf⟩ := hf
    refine mm_iast F hH e2 dX2_collect_56 (fun H locs hH => ?_)
    refine lv_iinc (v := x3 + (1 : Int32)) (lv' := [(3, .int (x3 + (1 : Int32))), (0, .ref h0), (1, .int x1), (2, .int x2)]) hx hb dX2_collect_57 hl (k := 3) rfl rfl (by decide) rfl (fun ls hl => ?_)
    refine lv_goto (tgt := 39) hx hb dX2_collect_60 (by decide) ?_
    rw [evn_l] at hf
    exact IH39 x1 x2 (x3 + (1 : Int32)) σ3 _ _ _ hH (lv_sub hl [1, 2, 3, 0] rfl) hf
set_option maxHeartbeats 4000000 in
theorem w_X2_collect_80 {p : Program} {l : Launch} {e : Env} {s : State} {m : MethodId} {av : Array Value} {below : List Frame} {meth : Method} {c : Code} {G : mm_G} {σf : mm_M} {rr : Int32} {n : Nat} {h0 : Nat} (F : mm_F p s m av c RX2 cX2_collect 11 G) (hr : meth.sig.returnType = (Option.some .int)) (hlocks : meth.locks = false) (hname : meth.name = yX2_collect.name) (IH12 : ∀ (x1 : Int32) (x2 : Int32) (x3 : Int32) (σ : mm_M) (H : Heap) (locs : List Loc) (ls : Array Slot), mm_H G s σ H locs → lv_has ls 11 [(0, .ref h0), (1, .int x1), (2, .int x2), (3, .int x3)] → itn (s_X2_collect h0) n (.inl (x1, x2, x3, σ)) = some (rr, σf) → W p l e rm_X2_collect s m av below meth c H locs 0 0 (MQ below (mm_Qi G rr σf) av s 0 0 (mm_A G)) (F0 m 12 ls [])) (IH39 : ∀ (x1 : Int32) (x2 : Int32) (x3 : Int32) (σ : mm_M) (H : Heap) (locs : List Loc) (ls : Array Slot), mm_H G s σ H locs → lv_has ls 11 [(0, .ref h0), (1, .int x1), (2, .int x2), (3, .int x3)] → itn (s_X2_collect h0) n (.inr (.inl (x1, x2, x3, σ))) = some (rr, σf) → W p l e rm_X2_collect s m av below meth c H locs 0 0 (MQ below (mm_Qi G rr σf) av s 0 0 (mm_A G)) (F0 m 39 ls [])) (IH80 : ∀ (x1 : Int32) (x2 : Int32) (x3 : Int32) (x4 : Int32) (x5 : Int32) (x6 : Int32) (x7 : Int32) (x8 : Int32) (σ : mm_M) (H : Heap) (locs : List Loc) (ls : Array Slot), mm_H G s σ H locs → lv_has ls 11 [(0, .ref h0), (1, .int x1), (2, .int x2), (3, .int x3), (4, .int x4), (5, .int x5), (6, .int x6), (7, .int x7), (8, .int x8)] → itn (s_X2_collect h0) n (.inr (.inr (.inl (x1, x2, x3, x4, x5, x6, x7, x8, σ)))) = some (rr, σf) → W p l e rm_X2_collect s m av below meth c H locs 0 0 (MQ below (mm_Qi G rr σf) av s 0 0 (mm_A G)) (F0 m 80 ls [])) (IH141 : ∀ (x1 : Int32) (x2 : Int32) (x4 : Int32) (x5 : Int32) (x6 : Int32) (x7 : Int32) (x8 : Int32) (x9 : Int32) (x10 : Int32) (σ : mm_M) (H : Heap) (locs : List Loc) (ls : Array Slot), mm_H G s σ H locs → lv_has ls 11 [(0, .ref h0), (1, .int x1), (2, .int x2), (4, .int x4), (5, .int x5), (6, .int x6), (7, .int x7), (8, .int x8), (9, .int x9), (10, .int x10)] → itn (s_X2_collect h0) n (.inr (.inr (.inr (x1, x2, x4, x5, x6, x7, x8, x9, x10, σ)))) = some (rr, σf) → W p l e rm_X2_collect s m av below meth c H locs 0 0 (MQ below (mm_Qi G rr σf) av s 0 0 (mm_A G)) (F0 m 141 ls []))  (x1 : Int32) (x2 : Int32) (x3 : Int32) (x4 : Int32) (x5 : Int32) (x6 : Int32) (x7 : Int32) (x8 : Int32)  (σ : mm_M) (hf : evn (s_X2_collect h0) n (g_X2_collect_80 h0 x1 x2 x3 x4 x5 x6 x7 x8 σ) = some (rr, σf)) {H : Heap} {locs : List Loc} {ls : Array Slot} (hH : mm_H G s σ H locs) (hl : lv_has ls 11 [(0, .ref h0), (1, .int x1), (2, .int x2), (3, .int x3), (4, .int x4), (5, .int x5), (6, .int x6), (7, .int x7), (8, .int x8)]) : W p l e rm_X2_collect s m av below meth c H locs 0 0 (MQ below (mm_Qi G rr σf) av s 0 0 (mm_A G)) (F0 m 80 ls []) := by
  have hx := F.1
  have hb := F.2.1
  have hml := F.2.2.1
  have hown := F.2.2.2.1
  have hts := F.2.2.2.2.1
  unfold g_X2_collect_80 at hf
  refine lv_iload hx hb dX2_collect_80 (lv_at hl 8 rfl) ?_
  refine lv_aload_n hx hb dX2_collect_82 rfl (lv_at hl 0 rfl) ?_
  replace hf := evn_b1 hf
  obtain ⟨q1, e1, hf⟩ := hf
  refine mm_getA F hH mc_2 (k := 0) (by decide) (hts _ q1047) (fun _ h => h) e1 dX2_collect_83 ?_
  refine lv_sipush (v := 1216) hx hb dX2_collect_86 (by decide) ?_
  replace hf := evn_b1 hf
  obtain ⟨v2, e2, hf⟩ := hf
  refine mm_iald F hH e2 dX2_collect_89 ?_
  refine lv_icmp_ge (tgt := 253) hx hb dX2_collect_90 (by decide) (fun c3 => ?_) (fun c3 => ?_)
  · rw [if_pos c3] at hf
    refine lv_aload_n hx hb dX2_collect_253 rfl (lv_at hl 0 rfl) ?_
    replace hf := evn_b1 hf
    obtain ⟨u, e3, hf⟩ := hf
    obtain ⟨fs, ek⟩ := ck_i e3
    replace hf := evn_b1 hf
    obtain ⟨σ4, e4, hf⟩ := hf
    refine mm_cv (va_runV (As := []) (rest := []) ⟨hx, hb, hml, hown, hts⟩ (m_X2_rebuilds l G h0 σ σ4 e4) (cwV 0 hts (lw_V q1227 q1229 qs48 q67 q1230) rfl rfl rfl (by decide +kernel) ⟨Nat.le_of_ble_eq_true rfl, Nat.le_of_ble_eq_true rfl⟩) (mm_preV F.2.2.2.2.2 hH (ci := 2) rfl ek) rfl rfl hl.1 rfl (lv_room (Nat.le_of_ble_eq_true rfl)) dX2_collect_254 ⟨Nat.le_of_ble_eq_true rfl, Nat.le_of_ble_eq_true rfl⟩) hH (fun H locs hH => ?_)
    refine lv_aload_n hx hb dX2_collect_257 rfl (lv_at hl 0 rfl) ?_
    replace hf := evn_b1 hf
    obtain ⟨q5, e5, hf⟩ := hf
    refine mm_getA F hH mc_2 (k := 0) (by decide) (hts _ q1047) (fun _ h => h) e5 dX2_collect_258 ?_
    refine lv_sipush (v := 1210) hx hb dX2_collect_261 (by decide) ?_
    refine lv_iload hx hb dX2_collect_264 (lv_at hl 4 rfl) ?_
    replace hf := evn_b1 hf
    obtain ⟨σ6, e6, hf⟩ := hf
    refine mm_iast F hH e6 dX2_collect_266 (fun H locs hH => ?_)
    refine lv_aload_n hx hb dX2_collect_267 rfl (lv_at hl 0 rfl) ?_
    replace hf := evn_b1 hf
    obtain ⟨q7, e7, hf⟩ := hf
    refine mm_getA F hH mc_2 (k := 0) (by decide) (hts _ q1047) (fun _ h => h) e7 dX2_collect_268 ?_
    refine lv_sipush (v := 1211) hx hb dX2_collect_271 (by decide) ?_
    refine lv_iload hx hb dX2_collect_274 (lv_at hl 5 rfl) ?_
    replace hf := evn_b1 hf
    obtain ⟨σ8, e8, hf⟩ := hf
    refine mm_iast F hH e8 dX2_collect_276 (fun H locs hH => ?_)
    refine lv_aload_n hx hb dX2_collect_277 rfl (lv_at hl 0 rfl) ?_
    replace hf := evn_b1 hf
    obtain ⟨q9, e9, hf⟩ := hf
    refine mm_getA F hH mc_2 (k := 0) (by decide) (hts _ q1047) (fun _ h => h) e9 dX2_collect_278 ?_
    refine lv_sipush (v := 1212) hx hb dX2_collect_281 (by decide) ?_
    refine lv_iload_n hx hb dX2_collect_284 rfl (lv_at hl 2 rfl) ?_
    replace hf := evn_b1 hf
    obtain ⟨σ10, e10, hf⟩ := hf
    refine mm_iast F hH e10 dX2_collect_285 (fun H locs hH => ?_)
    refine lv_aload_n hx hb dX2_collect_286 rfl (lv_at hl 0 rfl) ?_
    replace hf := evn_b1 hf
    obtain ⟨q11, e11, hf⟩ := hf
    refine mm_getA F hH mc_2 (k := 0) (by decide) (hts _ q1047) (fun _ h => h) e11 dX2_collect_287 ?_
    refine lv_sipush (v := 1213) hx hb dX2_collect_290 (by decide) ?_
    refine lv_aload_n hx hb dX2_collect_293 rfl (lv_at hl 0 rfl) ?_
    replace hf := evn_b1 hf
    obtain ⟨v12, e12, hf⟩ := hf
    refine mm_getI F hH mc_2 (k := 11) (by decide) (hts _ q1058) (fun _ h => h) e12 dX2_collect_294 ?_
    replace hf := evn_b1 hf
    obtain ⟨σ13, e13, hf⟩ := hf
    refine mm_iast F hH e13 dX2_collect_297 (fun H locs hH => ?_)
    refine lv_aload_n hx hb dX2_collect_298 rfl (lv_at hl 0 rfl) ?_
    replace hf := evn_b1 hf
    obtain ⟨q14, e14, hf⟩ := hf
    refine mm_getA F hH mc_2 (k := 0) (by decide) (hts _ q1047) (fun _ h => h) e14 dX2_collect_299 ?_
    refine lv_sipush (v := 1214) hx hb dX2_collect_302 (by decide) ?_
    refine lv_iload hx hb dX2_collect_305 (lv_at hl 6 rfl) ?_
    replace hf := evn_b1 hf
    obtain ⟨σ15, e15, hf⟩ := hf
    refine mm_iast F hH e15 dX2_collect_307 (fun H locs hH => ?_)
    refine lv_aload_n hx hb dX2_collect_308 rfl (lv_at hl 0 rfl) ?_
    replace hf := evn_b1 hf
    obtain ⟨q16, e16, hf⟩ := hf
    refine mm_getA F hH mc_2 (k := 0) (by decide) (hts _ q1047) (fun _ h => h) e16 dX2_collect_309 ?_
    refine lv_sipush (v := 1215) hx hb dX2_collect_312 (by decide) ?_
    refine lv_iload hx hb dX2_collect_315 (lv_at hl 7 rfl) ?_
    replace hf := evn_b1 hf
    obtain ⟨σ17, e17, hf⟩ := hf
    refine mm_iast F hH e17 dX2_collect_317 (fun H locs hH => ?_)
    refine lv_aload_n hx hb dX2_collect_318 rfl (lv_at hl 0 rfl) ?_
    replace hf := evn_b1 hf
    obtain ⟨q18, e18, hf⟩ := hf
    refine mm_getA F hH mc_2 (k := 0) (by decide) (hts _ q1047) (fun _ h => h) e18 dX2_collect_319 ?_
    refine lv_sipush (v := 1221) hx hb dX2_collect_322 (by decide) ?_
    refine lv_iconst (v := 1) hx hb dX2_collect_325 (by decide) ?_
    replace hf := evn_b1 hf
    obtain ⟨σ19, e19, hf⟩ := hf
    refine mm_iast F hH e19 dX2_collect_326 (fun H locs hH => ?_)
    refine lv_aload_n hx hb dX2_collect_327 rfl (lv_at hl 0 rfl) ?_
    replace hf := evn_b1 hf
    obtain ⟨q20, e20, hf⟩ := hf
    refine mm_getA F hH mc_2 (k := 0) (by decide) (hts _ q1047) (fun _ h => h) e20 dX2_collect_328 ?_
    refine lv_sipush (v := 1219) hx hb dX2_collect_331 (by decide) ?_
    refine lv_dup2_11 hx hb dX2_collect_334 rfl rfl ?_
    replace hf := evn_b1 hf
    obtain ⟨v21, e21, hf⟩ := hf
    refine mm_iald F hH e21 dX2_collect_335 ?_
    refine lv_iconst (v := 1) hx hb dX2_collect_336 (by decide) ?_
    refine lv_iadd hx hb dX2_collect_337 ?_
    replace hf := evn_b1 hf
    obtain ⟨σ22, e22, hf⟩ := hf
    refine mm_iast F hH e22 dX2_collect_338 (fun H locs hH => ?_)
    refine lv_aload_n hx hb dX2_collect_339 rfl (lv_at hl 0 rfl) ?_
    replace hf := evn_b1 hf
    obtain ⟨q23, e23, hf⟩ := hf
    refine mm_getA F hH mc_2 (k := 0) (by decide) (hts _ q1047) (fun _ h => h) e23 dX2_collect_340 ?_
    refine lv_sipush (v := 1220) hx hb dX2_collect_343 (by decide) ?_
    refine lv_dup2_11 hx hb dX2_collect_346 rfl rfl ?_
    replace hf := evn_b1 hf
    obtain ⟨v24, e24, hf⟩ := hf
    refine mm_iald F hH e24 dX2_collect_347 ?_
    refine lv_iload_n hx hb dX2_collect_348 rfl (lv_at hl 1 rfl) ?_
    refine lv_iload hx hb dX2_collect_349 (lv_at hl 5 rfl) ?_
    refine lv_isub hx hb dX2_collect_351 ?_
    refine lv_iadd hx hb dX2_collect_352 ?_
    replace hf := evn_b1 hf
    obtain ⟨σ25, e25, hf⟩ := hf
    refine mm_iast F hH e25 dX2_collect_353 (fun H locs hH => ?_)
    refine lv_iload_n hx hb dX2_collect_354 rfl (lv_at hl 1 rfl) ?_
    refine lv_iload hx hb dX2_collect_355 (lv_at hl 5 rfl) ?_
    refine lv_isub hx hb dX2_collect_357 ?_
    rw [evn_r] at hf
    obtain ⟨h1, h2⟩ := Prod.mk.inj (Option.some.inj hf)
    subst h1
    subst h2
    exact mm_reti F hH hr hlocks rfl rfl dX2_collect_358
  · rw [if_neg c3] at hf
    refine lv_aload_n hx hb dX2_collect_93 rfl (lv_at hl 0 rfl) ?_
    replace hf := evn_b1 hf
    obtain ⟨q26, e26, hf⟩ := hf
    refine mm_getA F hH mc_2 (k := 1) (by decide) (hts _ q1048) (fun _ h => h) e26 dX2_collect_94 ?_
    refine lv_iconst (v := 0) hx hb dX2_collect_97 (by decide) ?_
    refine lv_iload hx hb dX2_collect_98 (lv_at hl 8 rfl) ?_
    refine lv_iadd hx hb dX2_collect_100 ?_
    replace hf := evn_b1 hf
    obtain ⟨v27, e27, hf⟩ := hf
    refine mm_iald F hH e27 dX2_collect_101 ?_
    refine lv_if_le (tgt := 247) hx hb dX2_collect_102 (by decide) (fun c28 => ?_) (fun c28 => ?_)
    · rw [if_pos c28] at hf
      refine lv_iinc (v := x8 + (1 : Int32)) (lv' := [(8, .int (x8 + (1 : Int32))), (0, .ref h0), (1, .int x1), (2, .int x2), (3, .int x3), (4, .int x4), (5, .int x5), (6, .int x6), (7, .int x7)]) hx hb dX2_collect_247 hl (k := 8) rfl rfl (by decide) rfl (fun ls hl => ?_)
      refine lv_goto (tgt := 80) hx hb dX2_collect_250 (by decide) ?_
      rw [evn_l] at hf
      exact IH80 x1 x2 x3 x4 x5 x6 x7 (x8 + (1 : Int32)) σ _ _ _ hH (lv_sub hl [1, 2, 3, 4, 5, 6, 7, 8, 0] rfl) hf
    · rw [if_neg c28] at hf
      refine lv_aload_n hx hb dX2_collect_105 rfl (lv_at hl 0 rfl) ?_
      replace hf := evn_b1 hf
      obtain ⟨q29, e28, hf⟩ := hf
      refine mm_getA F hH mc_2 (k := 8) (by decide) (hts _ q1055) (fun _ h => h) e28 dX2_collect_106 ?_
      refine lv_iload hx hb dX2_collect_109 (lv_at hl 8 rfl) ?_
      replace hf := evn_b1 hf
      obtain ⟨v30, e29, hf⟩ := hf
      refine mm_zald F hH e29 dX2_collect_111 ?_
      refine lv_if_eq (tgt := 247) hx hb dX2_collect_112 (by decide) (fun c31 => ?_) (fun c31 => ?_)
      · rw [if_pos c31] at hf
        refine lv_iinc (v := x8 + (1 : Int32)) (lv' := [(8, .int (x8 + (1 : Int32))), (0, .ref h0), (1, .int x1), (2, .int x2), (3, .int x3), (4, .int x4), (5, .int x5), (6, .int x6), (7, .int x7)]) hx hb dX2_collect_247 hl (k := 8) rfl rfl (by decide) rfl (fun ls hl => ?_)
        refine lv_goto (tgt := 80) hx hb dX2_collect_250 (by decide) ?_
        rw [evn_l] at hf
        exact IH80 x1 x2 x3 x4 x5 x6 x7 (x8 + (1 : Int32)) σ _ _ _ hH (lv_sub hl [1, 2, 3, 4, 5, 6, 7, 8, 0] rfl) hf
      · rw [if_neg c31] at hf
        refine lv_aload_n hx hb dX2_collect_115 rfl (lv_at hl 0 rfl) ?_
        replace hf := evn_b1 hf
        obtain ⟨q32, e30, hf⟩ := hf
        refine mm_getA F hH mc_2 (k := 1) (by decide) (hts _ q1048) (fun _ h => h) e30 dX2_collect_116 ?_
        refine lv_sipush (v := 400) hx hb dX2_collect_119 (by decide) ?_
        refine lv_iload hx hb dX2_collect_122 (lv_at hl 8 rfl) ?_
        refine lv_iadd hx hb dX2_collect_124 ?_
        replace hf := evn_b1 hf
        obtain ⟨v33, e31, hf⟩ := hf
        refine mm_iald F hH e31 dX2_collect_125 ?_
        refine lv_iconst (v := 1) hx hb dX2_collect_126 (by decide) ?_
        refine lv_icmp_ne (tgt := 135) hx hb dX2_collect_127 (by decide) (fun c34 => ?_) (fun c34 => ?_)
        · rw [if_neg c34] at hf
          refine lv_iload_n hx hb dX2_collect_135 rfl (lv_at hl 3 rfl) ?_
          refine lv_istore (lv' := [(9, .int x3), (0, .ref h0), (1, .int x1), (2, .int x2), (3, .int x3), (4, .int x4), (5, .int x5), (6, .int x6), (7, .int x7), (8, .int x8)]) hx hb dX2_collect_136 hl (by decide) rfl (fun ls hl => ?_)
          refine lv_iconst (v := 0) hx hb dX2_collect_138 (by decide) ?_
          refine lv_istore (lv' := [(10, .int (0 : Int32)), (9, .int x3), (0, .ref h0), (1, .int x1), (2, .int x2), (3, .int x3), (4, .int x4), (5, .int x5), (6, .int x6), (7, .int x7), (8, .int x8)]) hx hb dX2_collect_139 hl (by decide) rfl (fun ls hl => ?_)
          rw [evn_l] at hf
          exact IH141 x1 x2 x4 x5 x6 x7 x8 x3 (0 : Int32) σ _ _ _ hH (lv_sub hl [2, 3, 4, 6, 7, 8, 9, 10, 1, 0] rfl) hf
        · rw [if_pos c34] at hf
          refine lv_iload hx hb dX2_collect_130 (lv_at hl 8 rfl) ?_
          refine lv_goto (tgt := 136) hx hb dX2_collect_132 (by decide) ?_
          refine lv_istore (lv' := [(9, .int x8), (0, .ref h0), (1, .int x1), (2, .int x2), (3, .int x3), (4, .int x4), (5, .int x5), (6, .int x6), (7, .int x7), (8, .int x8)]) hx hb dX2_collect_136 hl (by decide) rfl (fun ls hl => ?_)
          refine lv_iconst (v := 0) hx hb dX2_collect_138 (by decide) ?_
          refine lv_istore (lv' := [(10, .int (0 : Int32)), (9, .int x8), (0, .ref h0), (1, .int x1), (2, .int x2), (3, .int x3), (4, .int x4), (5, .int x5), (6, .int x6), (7, .int x7), (8, .int x8)]) hx hb dX2_collect_139 hl (by decide) rfl (fun ls hl => ?_)
          rw [evn_l] at hf
          exact IH141 x1 x2 x4 x5 x6 x7 x8 x8 (0 : Int32) σ _ _ _ hH (lv_sub hl [2, 3, 4, 6, 7, 8, 9, 10, 1, 0] rfl) hf
set_option maxHeartbeats 4000000 in
theorem w_X2_collect_224 {p : Program} {l : Launch} {e : Env} {s : State} {m : MethodId} {av : Array Value} {below : List Frame} {meth : Method} {c : Code} {G : mm_G} {σf : mm_M} {rr : Int32} {n : Nat} {h0 : Nat} (F : mm_F p s m av c RX2 cX2_collect 11 G) (hr : meth.sig.returnType = (Option.some .int)) (hlocks : meth.locks = false) (hname : meth.name = yX2_collect.name) (IH12 : ∀ (x1 : Int32) (x2 : Int32) (x3 : Int32) (σ : mm_M) (H : Heap) (locs : List Loc) (ls : Array Slot), mm_H G s σ H locs → lv_has ls 11 [(0, .ref h0), (1, .int x1), (2, .int x2), (3, .int x3)] → itn (s_X2_collect h0) n (.inl (x1, x2, x3, σ)) = some (rr, σf) → W p l e rm_X2_collect s m av below meth c H locs 0 0 (MQ below (mm_Qi G rr σf) av s 0 0 (mm_A G)) (F0 m 12 ls [])) (IH39 : ∀ (x1 : Int32) (x2 : Int32) (x3 : Int32) (σ : mm_M) (H : Heap) (locs : List Loc) (ls : Array Slot), mm_H G s σ H locs → lv_has ls 11 [(0, .ref h0), (1, .int x1), (2, .int x2), (3, .int x3)] → itn (s_X2_collect h0) n (.inr (.inl (x1, x2, x3, σ))) = some (rr, σf) → W p l e rm_X2_collect s m av below meth c H locs 0 0 (MQ below (mm_Qi G rr σf) av s 0 0 (mm_A G)) (F0 m 39 ls [])) (IH80 : ∀ (x1 : Int32) (x2 : Int32) (x3 : Int32) (x4 : Int32) (x5 : Int32) (x6 : Int32) (x7 : Int32) (x8 : Int32) (σ : mm_M) (H : Heap) (locs : List Loc) (ls : Array Slot), mm_H G s σ H locs → lv_has ls 11 [(0, .ref h0), (1, .int x1), (2, .int x2), (3, .int x3), (4, .int x4), (5, .int x5), (6, .int x6), (7, .int x7), (8, .int x8)] → itn (s_X2_collect h0) n (.inr (.inr (.inl (x1, x2, x3, x4, x5, x6, x7, x8, σ)))) = some (rr, σf) → W p l e rm_X2_collect s m av below meth c H locs 0 0 (MQ below (mm_Qi G rr σf) av s 0 0 (mm_A G)) (F0 m 80 ls [])) (IH141 : ∀ (x1 : Int32) (x2 : Int32) (x4 : Int32) (x5 : Int32) (x6 : Int32) (x7 : Int32) (x8 : Int32) (x9 : Int32) (x10 : Int32) (σ : mm_M) (H : Heap) (locs : List Loc) (ls : Array Slot), mm_H G s σ H locs → lv_has ls 11 [(0, .ref h0), (1, .int x1), (2, .int x2), (4, .int x4), (5, .int x5), (6, .int x6), (7, .int x7), (8, .int x8), (9, .int x9), (10, .int x10)] → itn (s_X2_collect h0) n (.inr (.inr (.inr (x1, x2, x4, x5, x6, x7, x8, x9, x10, σ)))) = some (rr, σf) → W p l e rm_X2_collect s m av below meth c H locs 0 0 (MQ below (mm_Qi G rr σf) av s 0 0 (mm_A G)) (F0 m 141 ls []))  (x1 : Int32) (x2 : Int32) (x3 : Int32) (x4 : Int32) (x5 : Int32) (x7 : Int32) (x8 : Int32) (x9 : Int32) (t0 : Int32) (t1 : Int32) (σ : mm_M) (hf : evn (s_X2_collect h0) n (g_X2_collect_224 h0 x1 x2 x3 x4 x5 x7 x8 x9 t0 t1 σ) = some (rr, σf)) {H : Heap} {locs : List Loc} {ls : Array Slot} (hH : mm_H G s σ H locs) (hl : lv_has ls 11 [(0, .ref h0), (1, .int x1), (2, .int x2), (3, .int x3), (4, .int x4), (5, .int x5), (7, .int x7), (8, .int x8), (9, .int x9)]) : W p l e rm_X2_collect s m av below meth c H locs 0 0 (MQ below (mm_Qi G rr σf) av s 0 0 (mm_A G)) (F0 m 224 ls [.int t1, .int t0]) := by
  have hx := F.1
  have hb := F.2.1
  have hml := F.2.2.1
  have hown := F.2.2.2.1
  have hts := F.2.2.2.2.1
  unfold g_X2_collect_224 at hf
  refine lv_iadd hx hb dX2_collect_224 ?_
  refine lv_istore (lv' := [(6, .int (t0 + t1)), (0, .ref h0), (1, .int x1), (2, .int x2), (3, .int x3), (4, .int x4), (5, .int x5), (7, .int x7), (8, .int x8), (9, .int x9)]) hx hb dX2_collect_225 hl (by decide) rfl (fun ls hl => ?_)
  refine lv_iload hx hb dX2_collect_227 (lv_at hl 7 rfl) ?_
  refine lv_iload hx hb dX2_collect_229 (lv_at hl 8 rfl) ?_
  refine lv_iload hx hb dX2_collect_231 (lv_at hl 9 rfl) ?_
  refine lv_isub hx hb dX2_collect_233 ?_
  refine lv_aload_n hx hb dX2_collect_234 rfl (lv_at hl 1 rfl) ?_
  replace hf := evn_b1 hf
  obtain ⟨q1, e1, hf⟩ := hf
  refine mm_getA F hH mc_2 (k := 1) (by decide) (hts _ q1048) (fun _ h => h) e1 dX2_collect_235 ?_
  refine lv_iconst (v := 0) hx hb dX2_collect_238 (by decide) ?_
  refine lv_iload hx hb dX2_collect_239 (lv_at hl 8 rfl) ?_
  refine lv_iadd hx hb dX2_collect_241 ?_
  replace hf := evn_b1 hf
  obtain ⟨v2, e2, hf⟩ := hf
  refine mm_iald F hH e2 dX2_collect_242 ?_
  refine lv_imul hx hb dX2_collect_243 ?_
  refine lv_iadd hx hb dX2_collect_244 ?_
  refine lv_istore (lv' := [(7, .int (x7 + ((x8 - x9) * v2))), (6, .int (t0 + t1)), (0, .ref h0), (1, .int x1), (2, .int x2), (3, .int x3), (4, .int x4), (5, .int x5), (8, .int x8), (9, .int x9)]) hx hb dX2_collect_245 hl (by decide) rfl (fun ls hl => ?_)
  refine lv_iinc (v := x8 + (1 : Int32)) (lv' := [(8, .int (x8 + (1 : Int32))), (7, .int (x7 + ((x8 - x9) * v2))), (6, .int (t0 + t1)), (0, .ref h0), (1, .int x1), (2, .int x2), (3, .int x3), (4, .int x4), (5, .int x5), (9, .int x9)]) hx hb dX2_collect_247 hl (k := 8) rfl rfl (by decide) rfl (fun ls hl => ?_)
  refine lv_goto (tgt := 80) hx hb dX2_collect_250 (by decide) ?_
  rw [evn_l] at hf
  exact IH80 x1 x2 x3 x4 x5 (t0 + t1) (x7 + ((x8 - x9) * v2)) (x8 + (1 : Int32)) σ _ _ _ hH (lv_sub hl [3, 4, 5, 6, 7, 8, 2, 1, 0] rfl) hf
set_option maxHeartbeats 4000000 in
theorem w_X2_collect_141 {p : Program} {l : Launch} {e : Env} {s : State} {m : MethodId} {av : Array Value} {below : List Frame} {meth : Method} {c : Code} {G : mm_G} {σf : mm_M} {rr : Int32} {n : Nat} {h0 : Nat} (F : mm_F p s m av c RX2 cX2_collect 11 G) (hr : meth.sig.returnType = (Option.some .int)) (hlocks : meth.locks = false) (hname : meth.name = yX2_collect.name) (IH12 : ∀ (x1 : Int32) (x2 : Int32) (x3 : Int32) (σ : mm_M) (H : Heap) (locs : List Loc) (ls : Array Slot), mm_H G s σ H locs → lv_has ls 11 [(0, .ref h0), (1, .int x1), (2, .int x2), (3, .int x3)] → itn (s_X2_collect h0) n (.inl (x1, x2, x3, σ)) = some (rr, σf) → W p l e rm_X2_collect s m av below meth c H locs 0 0 (MQ below (mm_Qi G rr σf) av s 0 0 (mm_A G)) (F0 m 12 ls [])) (IH39 : ∀ (x1 : Int32) (x2 : Int32) (x3 : Int32) (σ : mm_M) (H : Heap) (locs : List Loc) (ls : Array Slot), mm_H G s σ H locs → lv_has ls 11 [(0, .ref h0), (1, .int x1), (2, .int x2), (3, .int x3)] → itn (s_X2_collect h0) n (.inr (.inl (x1, x2, x3, σ))) = some (rr, σf) → W p l e rm_X2_collect s m av below meth c H locs 0 0 (MQ below (mm_Qi G rr σf) av s 0 0 (mm_A G)) (F0 m 39 ls [])) (IH80 : ∀ (x1 : Int32) (x2 : Int32) (x3 : Int32) (x4 : Int32) (x5 : Int32) (x6 : Int32) (x7 : Int32) (x8 : Int32) (σ : mm_M) (H : Heap) (locs : List Loc) (ls : Array Slot), mm_H G s σ H locs → lv_has ls 11 [(0, .ref h0), (1, .int x1), (2, .int x2), (3, .int x3), (4, .int x4), (5, .int x5), (6, .int x6), (7, .int x7), (8, .int x8)] → itn (s_X2_collect h0) n (.inr (.inr (.inl (x1, x2, x3, x4, x5, x6, x7, x8, σ)))) = some (rr, σf) → W p l e rm_X2_collect s m av below meth c H locs 0 0 (MQ below (mm_Qi G rr σf) av s 0 0 (mm_A G)) (F0 m 80 ls [])) (IH141 : ∀ (x1 : Int32) (x2 : Int32) (x4 : Int32) (x5 : Int32) (x6 : Int32) (x7 : Int32) (x8 : Int32) (x9 : Int32) (x10 : Int32) (σ : mm_M) (H : Heap) (locs : List Loc) (ls : Array Slot), mm_H G s σ H locs → lv_has ls 11 [(0, .ref h0), (1, .int x1), (2, .int x2), (4, .int x4), (5, .int x5), (6, .int x6), (7, .int x7), (8, .int x8), (9, .int x9), (10, .int x10)] → itn (s_X2_collect h0) n (.inr (.inr (.inr (x1, x2, x4, x5, x6, x7, x8, x9, x10, σ)))) = some (rr, σf) → W p l e rm_X2_collect s m av below meth c H locs 0 0 (MQ below (mm_Qi G rr σf) av s 0 0 (mm_A G)) (F0 m 141 ls []))  (x1 : Int32) (x2 : Int32) (x4 : Int32) (x5 : Int32) (x6 : Int32) (x7 : Int32) (x8 : Int32) (x9 : Int32) (x10 : Int32)  (σ : mm_M) (hf : evn (s_X2_collect h0) n (g_X2_collect_141 h0 x1 x2 x4 x5 x6 x7 x8 x9 x10 σ) = some (rr, σf)) {H : Heap} {locs : List Loc} {ls : Array Slot} (hH : mm_H G s σ H locs) (hl : lv_has ls 11 [(0, .ref h0), (1, .int x1), (2, .int x2), (4, .int x4), (5, .int x5), (6, .int x6), (7, .int x7), (8, .int x8), (9, .int x9), (10, .int x10)]) : W p l e rm_X2_collect s m av below meth c H locs 0 0 (MQ below (mm_Qi G rr σf) av s 0 0 (mm_A G)) (F0 m 141 ls []) := by
  have hx := F.1
  have hb := F.2.1
  have hml := F.2.2.1
  have hown := F.2.2.2.1
  have hts := F.2.2.2.2.1
  unfold g_X2_collect_141 at hf
  refine lv_iload hx hb dX2_collect_141 (lv_at hl 9 rfl) ?_
  refine lv_aload_n hx hb dX2_collect_143 rfl (lv_at hl 0 rfl) ?_
  replace hf := evn_b1 hf
  obtain ⟨q1, e1, hf⟩ := hf
  refine mm_getA F hH mc_2 (k := 1) (by decide) (hts _ q1048) (fun _ h => h) e1 dX2_collect_144 ?_
  refine lv_iconst (v := 0) hx hb dX2_collect_147 (by decide) ?_
  refine lv_iload hx hb dX2_collect_148 (lv_at hl 7 rfl) ?_
  refine lv_iadd hx hb dX2_collect_150 ?_
  replace hf := evn_b1 hf
  obtain ⟨v2, e2, hf⟩ := hf
  refine mm_iald F hH e2 dX2_collect_151 ?_
  refine lv_icmp_ge (tgt := 180) hx hb dX2_collect_152 (by decide) (fun c3 => ?_) (fun c3 => ?_)
  · rw [if_pos c3] at hf
    refine lv_iload hx hb dX2_collect_180 (lv_at hl 8 rfl) ?_
    refine lv_aload_n hx hb dX2_collect_182 rfl (lv_at hl 0 rfl) ?_
    replace hf := evn_b1 hf
    obtain ⟨q4, e3, hf⟩ := hf
    refine mm_getA F hH mc_2 (k := 1) (by decide) (hts _ q1048) (fun _ h => h) e3 dX2_collect_183 ?_
    refine lv_iconst (v := 0) hx hb dX2_collect_186 (by decide) ?_
    refine lv_iload hx hb dX2_collect_187 (lv_at hl 7 rfl) ?_
    refine lv_iadd hx hb dX2_collect_189 ?_
    replace hf := evn_b1 hf
    obtain ⟨v5, e4, hf⟩ := hf
    refine mm_iald F hH e4 dX2_collect_190 ?_
    refine lv_iadd hx hb dX2_collect_191 ?_
    refine lv_istore_n (lv' := [(3, .int (x9 + v5)), (0, .ref h0), (1, .int x1), (2, .int x2), (4, .int x4), (5, .int x5), (6, .int x6), (7, .int x7), (8, .int x8), (9, .int x9), (10, .int x10)]) hx hb dX2_collect_192 rfl hl (by decide) rfl (fun ls hl => ?_)
    refine lv_iinc (v := x4 + (1 : Int32)) (lv' := [(4, .int (x4 + (1 : Int32))), (3, .int (x9 + v5)), (0, .ref h0), (1, .int x1), (2, .int x2), (5, .int x5), (6, .int x6), (7, .int x7), (8, .int x8), (9, .int x9), (10, .int x10)]) hx hb dX2_collect_193 hl (k := 4) rfl rfl (by decide) rfl (fun ls hl => ?_)
    refine lv_iload hx hb dX2_collect_196 (lv_at hl 5 rfl) ?_
    refine lv_aload_n hx hb dX2_collect_198 rfl (lv_at hl 2 rfl) ?_
    replace hf := evn_b1 hf
    obtain ⟨q6, e5, hf⟩ := hf
    refine mm_getA F hH mc_2 (k := 1) (by decide) (hts _ q1048) (fun _ h => h) e5 dX2_collect_199 ?_
    refine lv_iconst (v := 0) hx hb dX2_collect_202 (by decide) ?_
    refine lv_iload hx hb dX2_collect_203 (lv_at hl 8 rfl) ?_
    refine lv_iadd hx hb dX2_collect_205 ?_
    replace hf := evn_b1 hf
    obtain ⟨v7, e6, hf⟩ := hf
    refine mm_iald F hH e6 dX2_collect_206 ?_
    refine lv_iadd hx hb dX2_collect_207 ?_
    refine lv_istore (lv' := [(5, .int (x5 + v7)), (4, .int (x4 + (1 : Int32))), (3, .int (x9 + v5)), (0, .ref h0), (1, .int x1), (2, .int x2), (6, .int x6), (7, .int x7), (8, .int x8), (9, .int x9), (10, .int x10)]) hx hb dX2_collect_208 hl (by decide) rfl (fun ls hl => ?_)
    refine lv_iload hx hb dX2_collect_210 (lv_at hl 6 rfl) ?_
    refine lv_iload hx hb dX2_collect_212 (lv_at hl 9 rfl) ?_
    refine lv_iload hx hb dX2_collect_214 (lv_at hl 8 rfl) ?_
    refine lv_icmp_ne (tgt := 223) hx hb dX2_collect_216 (by decide) (fun c8 => ?_) (fun c8 => ?_)
    · rw [if_neg c8] at hf
      refine lv_iconst (v := 1) hx hb dX2_collect_223 (by decide) ?_
      exact w_X2_collect_224 F hr hlocks hname IH12 IH39 IH80 IH141 x1 x2 (x9 + v5) (x4 + (1 : Int32)) (x5 + v7) x7 x8 x9 x6 (1 : Int32) σ hf hH (lv_sub hl [3, 4, 5, 2, 1, 0, 7, 8, 9] rfl)
    · rw [if_pos c8] at hf
      refine lv_iconst (v := 0) hx hb dX2_collect_219 (by decide) ?_
      refine lv_goto (tgt := 224) hx hb dX2_collect_220 (by decide) ?_
      exact w_X2_collect_224 F hr hlocks hname IH12 IH39 IH80 IH141 x1 x2 (x9 + v5) (x4 + (1 : Int32)) (x5 + v7) x7 x8 x9 x6 (0 : Int32) σ hf hH (lv_sub hl [3, 4, 5, 2, 1, 0, 7, 8, 9] rfl)
  · rw [if_neg c3] at hf
    refine lv_aload_n hx hb dX2_collect_155 rfl (lv_at hl 0 rfl) ?_
    replace hf := evn_b1 hf
    obtain ⟨q9, e7, hf⟩ := hf
    refine mm_getA F hH mc_2 (k := 0) (by decide) (hts _ q1047) (fun _ h => h) e7 dX2_collect_156 ?_
    refine lv_sipush (v := 1000) hx hb dX2_collect_159 (by decide) ?_
    refine lv_iload hx hb dX2_collect_162 (lv_at hl 7 rfl) ?_
    refine lv_iadd hx hb dX2_collect_164 ?_
    refine lv_iload hx hb dX2_collect_165 (lv_at hl 9 rfl) ?_
    refine lv_iadd hx hb dX2_collect_167 ?_
    refine lv_iload hx hb dX2_collect_168 (lv_at hl 8 rfl) ?_
    refine lv_iload hx hb dX2_collect_170 (lv_at hl 9 rfl) ?_
    refine lv_iadd hx hb dX2_collect_172 ?_
    replace hf := evn_b1 hf
    obtain ⟨σ10, e8, hf⟩ := hf
    refine mm_iast F hH e8 dX2_collect_173 (fun H locs hH => ?_)
    refine lv_iinc (v := x10 + (1 : Int32)) (lv' := [(10, .int (x10 + (1 : Int32))), (0, .ref h0), (1, .int x1), (2, .int x2), (4, .int x4), (5, .int x5), (6, .int x6), (7, .int x7), (8, .int x8), (9, .int x9)]) hx hb dX2_collect_174 hl (k := 9) rfl rfl (by decide) rfl (fun ls hl => ?_)
    refine lv_goto (tgt := 141) hx hb dX2_collect_177 (by decide) ?_
    rw [evn_l] at hf
    exact IH141 x1 x2 x4 x5 x6 x7 x8 x9 (x10 + (1 : Int32)) σ10 _ _ _ hH (lv_sub hl [1, 2, 3, 4, 5, 6, 7, 8, 9, 0] rfl) hf
set_option maxHeartbeats 4000000 in
theorem w_X2_collect_0 {p : Program} {l : Launch} {e : Env} {s : State} {m : MethodId} {av : Array Value} {below : List Frame} {meth : Method} {c : Code} {G : mm_G} {σf : mm_M} {rr : Int32} {n : Nat} {h0 : Nat} (F : mm_F p s m av c RX2 cX2_collect 11 G) (hr : meth.sig.returnType = (Option.some .int)) (hlocks : meth.locks = false) (hname : meth.name = yX2_collect.name) (IH12 : ∀ (x1 : Int32) (x2 : Int32) (x3 : Int32) (σ : mm_M) (H : Heap) (locs : List Loc) (ls : Array Slot), mm_H G s σ H locs → lv_has ls 11 [(0, .ref h0), (1, .int x1), (2, .int x2), (3, .int x3)] → itn (s_X2_collect h0) n (.inl (x1, x2, x3, σ)) = some (rr, σf) → W p l e rm_X2_collect s m av below meth c H locs 0 0 (MQ below (mm_Qi G rr σf) av s 0 0 (mm_A G)) (F0 m 12 ls [])) (IH39 : ∀ (x1 : Int32) (x2 : Int32) (x3 : Int32) (σ : mm_M) (H : Heap) (locs : List Loc) (ls : Array Slot), mm_H G s σ H locs → lv_has ls 11 [(0, .ref h0), (1, .int x1), (2, .int x2), (3, .int x3)] → itn (s_X2_collect h0) n (.inr (.inl (x1, x2, x3, σ))) = some (rr, σf) → W p l e rm_X2_collect s m av below meth c H locs 0 0 (MQ below (mm_Qi G rr σf) av s 0 0 (mm_A G)) (F0 m 39 ls [])) (IH80 : ∀ (x1 : Int32) (x2 : Int32) (x3 : Int32) (x4 : Int32) (x5 : Int32) (x6 : Int32) (x7 : Int32) (x8 : Int32) (σ : mm_M) (H : Heap) (locs : List Loc) (ls : Array Slot), mm_H G s σ H locs → lv_has ls 11 [(0, .ref h0), (1, .int x1), (2, .int x2), (3, .int x3), (4, .int x4), (5, .int x5), (6, .int x6), (7, .int x7), (8, .int x8)] → itn (s_X2_collect h0) n (.inr (.inr (.inl (x1, x2, x3, x4, x5, x6, x7, x8, σ)))) = some (rr, σf) → W p l e rm_X2_collect s m av below meth c H locs 0 0 (MQ below (mm_Qi G rr σf) av s 0 0 (mm_A G)) (F0 m 80 ls [])) (IH141 : ∀ (x1 : Int32) (x2 : Int32) (x4 : Int32) (x5 : Int32) (x6 : Int32) (x7 : Int32) (x8 : Int32) (x9 : Int32) (x10 : Int32) (σ : mm_M) (H : Heap) (locs : List Loc) (ls : Array Slot), mm_H G s σ H locs → lv_has ls 11 [(0, .ref h0), (1, .int x1), (2, .int x2), (4, .int x4), (5, .int x5), (6, .int x6), (7, .int x7), (8, .int x8), (9, .int x9), (10, .int x10)] → itn (s_X2_collect h0) n (.inr (.inr (.inr (x1, x2, x4, x5, x6, x7, x8, x9, x10, σ)))) = some (rr, σf) → W p l e rm_X2_collect s m av below meth c H locs 0 0 (MQ below (mm_Qi G rr σf) av s 0 0 (mm_A G)) (F0 m 141 ls []))    (σ : mm_M) (hf : evn (s_X2_collect h0) n (g_X2_collect_0 h0 σ) = some (rr, σf)) {H : Heap} {locs : List Loc} {ls : Array Slot} (hH : mm_H G s σ H locs) (hl : lv_has ls 11 [(0, .ref h0)]) : W p l e rm_X2_collect s m av below meth c H locs 0 0 (MQ below (mm_Qi G rr σf) av s 0 0 (mm_A G)) (F0 m 0 ls []) := by
  have hx := F.1
  have hb := F.2.1
  have hml := F.2.2.1
  have hown := F.2.2.2.1
  have hts := F.2.2.2.2.1
  unfold g_X2_collect_0 at hf
  refine lv_aload_n hx hb dX2_collect_0 rfl (lv_at hl 0 rfl) ?_
  replace hf := evn_b1 hf
  obtain ⟨u, e1, hf⟩ := hf
  obtain ⟨fs, ek⟩ := ck_i e1
  replace hf := evn_b1 hf
  obtain ⟨v1, e2, hf⟩ := hf
  refine mm_ci (va_runV (As := []) (rest := []) ⟨hx, hb, hml, hown, hts⟩ (m_X2_occupied l G h0 σ v1 e2) (cwV 0 hts (lw_V q1207 q1209 qs43 q67 q1210) rfl rfl rfl (by decide +kernel) ⟨Nat.le_of_ble_eq_true rfl, Nat.le_of_ble_eq_true rfl⟩) (mm_preV F.2.2.2.2.2 hH (ci := 2) rfl ek) rfl rfl hl.1 rfl (lv_room (Nat.le_of_ble_eq_true rfl)) dX2_collect_1 ⟨Nat.le_of_ble_eq_true rfl, Nat.le_of_ble_eq_true rfl⟩) hH (fun H locs hH => ?_)
  refine lv_istore_n (lv' := [(1, .int v1), (0, .ref h0)]) hx hb dX2_collect_4 rfl hl (by decide) rfl (fun ls hl => ?_)
  refine lv_aload_n hx hb dX2_collect_5 rfl (lv_at hl 1 rfl) ?_
  replace hf := evn_b1 hf
  obtain ⟨u, e3, hf⟩ := hf
  obtain ⟨fs, ek⟩ := ck_i e3
  replace hf := evn_b2 hf
  obtain ⟨v2, σ3, e4, hf⟩ := hf
  refine mm_ci (va_runV (As := []) (rest := []) ⟨hx, hb, hml, hown, hts⟩ (m_X2_marks l G h0 σ σ3 v2 e4) (cwV 0 hts (lw_V q1211 q1213 qs44 q67 q1214) rfl rfl rfl (by decide +kernel) ⟨Nat.le_of_ble_eq_true rfl, Nat.le_of_ble_eq_true rfl⟩) (mm_preV F.2.2.2.2.2 hH (ci := 2) rfl ek) rfl rfl hl.1 rfl (lv_room (Nat.le_of_ble_eq_true rfl)) dX2_collect_6 ⟨Nat.le_of_ble_eq_true rfl, Nat.le_of_ble_eq_true rfl⟩) hH (fun H locs hH => ?_)
  refine lv_istore_n (lv' := [(2, .int v2), (1, .int v1), (0, .ref h0)]) hx hb dX2_collect_9 rfl hl (by decide) rfl (fun ls hl => ?_)
  refine lv_iconst (v := 0) hx hb dX2_collect_10 (by decide) ?_
  refine lv_istore_n (lv' := [(3, .int (0 : Int32)), (2, .int v2), (1, .int v1), (0, .ref h0)]) hx hb dX2_collect_11 rfl hl (by decide) rfl (fun ls hl => ?_)
  rw [evn_l] at hf
  exact IH12 v1 v2 (0 : Int32) σ3 _ _ _ hH (lv_sub hl [3, 2, 1, 0] rfl) hf
set_option maxHeartbeats 4000000 in
theorem l_X2_collect {p : Program} {l : Launch} {e : Env} {s : State} {m : MethodId} {av : Array Value} {below : List Frame} {meth : Method} {c : Code} {G : mm_G} {σf : mm_M} {rr : Int32} {h0 : Nat} (F : mm_F p s m av c RX2 cX2_collect 11 G) (hr : meth.sig.returnType = (Option.some .int)) (hlocks : meth.locks = false) (hname : meth.name = yX2_collect.name) : ∀ n : Nat, (∀ (x1 : Int32) (x2 : Int32) (x3 : Int32) (σ : mm_M) (H : Heap) (locs : List Loc) (ls : Array Slot), mm_H G s σ H locs → lv_has ls 11 [(0, .ref h0), (1, .int x1), (2, .int x2), (3, .int x3)] → itn (s_X2_collect h0) n (.inl (x1, x2, x3, σ)) = some (rr, σf) → W p l e rm_X2_collect s m av below meth c H locs 0 0 (MQ below (mm_Qi G rr σf) av s 0 0 (mm_A G)) (F0 m 12 ls [])) ∧ (∀ (x1 : Int32) (x2 : Int32) (x3 : Int32) (σ : mm_M) (H : Heap) (locs : List Loc) (ls : Array Slot), mm_H G s σ H locs → lv_has ls 11 [(0, .ref h0), (1, .int x1), (2, .int x2), (3, .int x3)] → itn (s_X2_collect h0) n (.inr (.inl (x1, x2, x3, σ))) = some (rr, σf) → W p l e rm_X2_collect s m av below meth c H locs 0 0 (MQ below (mm_Qi G rr σf) av s 0 0 (mm_A G)) (F0 m 39 ls [])) ∧ (∀ (x1 : Int32) (x2 : Int32) (x3 : Int32) (x4 : Int32) (x5 : Int32) (x6 : Int32) (x7 : Int32) (x8 : Int32) (σ : mm_M) (H : Heap) (locs : List Loc) (ls : Array Slot), mm_H G s σ H locs → lv_has ls 11 [(0, .ref h0), (1, .int x1), (2, .int x2), (3, .int x3), (4, .int x4), (5, .int x5), (6, .int x6), (7, .int x7), (8, .int x8)] → itn (s_X2_collect h0) n (.inr (.inr (.inl (x1, x2, x3, x4, x5, x6, x7, x8, σ)))) = some (rr, σf) → W p l e rm_X2_collect s m av below meth c H locs 0 0 (MQ below (mm_Qi G rr σf) av s 0 0 (mm_A G)) (F0 m 80 ls [])) ∧ (∀ (x1 : Int32) (x2 : Int32) (x4 : Int32) (x5 : Int32) (x6 : Int32) (x7 : Int32) (x8 : Int32) (x9 : Int32) (x10 : Int32) (σ : mm_M) (H : Heap) (locs : List Loc) (ls : Array Slot), mm_H G s σ H locs → lv_has ls 11 [(0, .ref h0), (1, .int x1), (2, .int x2), (4, .int x4), (5, .int x5), (6, .int x6), (7, .int x7), (8, .int x8), (9, .int x9), (10, .int x10)] → itn (s_X2_collect h0) n (.inr (.inr (.inr (x1, x2, x4, x5, x6, x7, x8, x9, x10, σ)))) = some (rr, σf) → W p l e rm_X2_collect s m av below meth c H locs 0 0 (MQ below (mm_Qi G rr σf) av s 0 0 (mm_A G)) (F0 m 141 ls [])) := by
  intro n
  induction n with
  | zero =>
    exact ⟨fun x1 x2 x3 σ H locs ls hH hl hf => (by cases hf), fun x1 x2 x3 σ H locs ls hH hl hf => (by cases hf), fun x1 x2 x3 x4 x5 x6 x7 x8 σ H locs ls hH hl hf => (by cases hf), fun x1 x2 x4 x5 x6 x7 x8 x9 x10 σ H locs ls hH hl hf => (by cases hf)⟩
  | succ n ih =>
    obtain ⟨IH12, IH39, IH80, IH141⟩ := ih
    refine ⟨?_, ?_, ?_, ?_⟩
    · intro x1 x2 x3 σ H locs ls hH hl hf
      rw [itn_s] at hf
      exact w_X2_collect_12 F hr hlocks hname IH12 IH39 IH80 IH141 x1 x2 x3 σ hf hH hl
    · intro x1 x2 x3 σ H locs ls hH hl hf
      rw [itn_s] at hf
      exact w_X2_collect_39 F hr hlocks hname IH12 IH39 IH80 IH141 x1 x2 x3 σ hf hH hl
    · intro x1 x2 x3 x4 x5 x6 x7 x8 σ H locs ls hH hl hf
      rw [itn_s] at hf
      exact w_X2_collect_80 F hr hlocks hname IH12 IH39 IH80 IH141 x1 x2 x3 x4 x5 x6 x7 x8 σ hf hH hl
    · intro x1 x2 x4 x5 x6 x7 x8 x9 x10 σ H locs ls hH hl hf
      rw [itn_s] at hf
      exact w_X2_collect_141 F hr hlocks hname IH12 IH39 IH80 IH141 x1 x2 x4 x5 x6 x7 x8 x9 x10 σ hf hH hl
set_option maxHeartbeats 4000000 in
theorem m_X2_collect (l : Launch) (G : mm_G) (h0 : Nat) (σ : mm_M) (σf : mm_M) (rr : Int32) (hf : f_X2_collect h0 σ = some (rr, σf)) : Met l yX2_collect (ws_ yX2_collect cX2_collect 11 ((Option.some .int))) rm_X2_collect (mm_Pc G [.ref h0] σ) (mm_Qi G rr σf) 0 0 (mm_A G) := by
  refine mm_met (by decide) rfl rfl (by  exact Nat.le_of_ble_eq_true rfl) (fun p e s m below meth c ls F hH hr hlocks hname hl => ?_)
  have hl : lv_has ls 11 [(0, .ref h0)] := by  exact hl
  have F : mm_F p s m _ c RX2 cX2_collect 11 G := F
  unfold f_X2_collect at hf
  obtain ⟨n, hf⟩ := lgo_i hf
  have IH := l_X2_collect (l := l) (e := e) (below := below) (rr := rr) (σf := σf) (h0 := h0) F hr hlocks hname n
  exact w_X2_collect_0 F hr hlocks hname IH.1 IH.2.1 IH.2.2.1 IH.2.2.2 σ hf hH (lv_sub hl [0] rfl)
/-! IslandHeapModel.moved(I)I -/
abbrev rm_X2_moved : Room := { frames := 1, cells := 0, slots := 0, locals := 22 }
set_option maxHeartbeats 4000000 in
theorem m_X2_moved (l : Launch) (G : mm_G) (h0 : Nat) (x1 : Int32) (σ : mm_M) (rr : Int32) (hf : f_X2_moved h0 x1 σ = some rr) : Met l yX2_moved (ws_ yX2_moved cX2_moved 2 ((Option.some .int))) rm_X2_moved (mm_Pc G [.ref h0, .int x1] σ) (mm_Qi G rr σ) 0 0 (mm_A G) := by
  refine mm_met (by decide) rfl rfl (by  exact Nat.le_of_ble_eq_true rfl) (fun p e s m below meth c ls F hH hr hlocks hname hl => ?_)
  have hl : lv_has ls 2 [(0, .ref h0), (1, .int x1)] := by  exact hl
  have F : mm_F p s m _ c RX2 cX2_moved 2 G := F
  have hx := F.1
  have hb := F.2.1
  have hml := F.2.2.1
  have hown := F.2.2.2.1
  have hts := F.2.2.2.2.1
  unfold f_X2_moved at hf
  refine lv_iload_n hx hb dX2_moved_0 rfl (lv_at hl 1 rfl) ?_
  refine lv_iconst (v := 0) hx hb dX2_moved_1 (by decide) ?_
  refine lv_aload_n hx hb dX2_moved_2 rfl (lv_at hl 0 rfl) ?_
  replace hf := b1_i hf
  obtain ⟨q1, e1, hf⟩ := hf
  refine mm_getA F hH mc_2 (k := 0) (by decide) (hts _ q1047) (fun _ h => h) e1 dX2_moved_3 ?_
  refine lv_sipush (v := 1216) hx hb dX2_moved_6 (by decide) ?_
  replace hf := b1_i hf
  obtain ⟨v2, e2, hf⟩ := hf
  refine mm_iald F hH e2 dX2_moved_9 ?_
  refine lv_iconst (v := 1) hx hb dX2_moved_10 (by decide) ?_
  refine lv_isub hx hb dX2_moved_11 ?_
  replace hf := b1_i hf
  obtain ⟨v3, e3, hf⟩ := hf
  refine mm_ci (va_runS (As := [.int x1, .int (0 : Int32), .int (v2 - (1 : Int32))]) (rest := []) ⟨hx, hb, hml, hown, hts⟩ (m_X2_in l G x1 (0 : Int32) (v2 - (1 : Int32)) σ v3 e3) (va_cwS 3 hts (lw_S q1107 q1108 q67 q1109) rfl rfl rfl (by decide +kernel) ⟨Nat.le_of_ble_eq_true rfl, Nat.le_of_ble_eq_true rfl⟩) (mm_preS F.2.2.2.2.2 hH) rfl rfl hl.1 rfl (lv_room (Nat.le_of_ble_eq_true rfl)) dX2_moved_12 ⟨Nat.le_of_ble_eq_true rfl, Nat.le_of_ble_eq_true rfl⟩) hH (fun H locs hH => ?_)
  refine lv_if_ne (tgt := 21) hx hb dX2_moved_15 (by decide) (fun c4 => ?_) (fun c4 => ?_)
  · rw [if_neg c4] at hf
    refine lv_aload_n hx hb dX2_moved_21 rfl (lv_at hl 0 rfl) ?_
    replace hf := b1_i hf
    obtain ⟨q5, e4, hf⟩ := hf
    refine mm_getA F hH mc_2 (k := 0) (by decide) (hts _ q1047) (fun _ h => h) e4 dX2_moved_22 ?_
    refine lv_sipush (v := 1221) hx hb dX2_moved_25 (by decide) ?_
    replace hf := b1_i hf
    obtain ⟨v6, e5, hf⟩ := hf
    refine mm_iald F hH e5 dX2_moved_28 ?_
    refine lv_iconst (v := 1) hx hb dX2_moved_29 (by decide) ?_
    refine lv_icmp_ne (tgt := 46) hx hb dX2_moved_30 (by decide) (fun c7 => ?_) (fun c7 => ?_)
    · rw [if_neg c7] at hf
      refine lv_ldc (v := (-1000003)) hx hb hown (hts _ q1178) dX2_moved_46 ?_
      have h1 := Option.some.inj hf
      subst h1
      exact mm_reti F hH hr hlocks rfl rfl dX2_moved_48
    · rw [if_pos c7] at hf
      refine lv_aload_n hx hb dX2_moved_33 rfl (lv_at hl 0 rfl) ?_
      replace hf := b1_i hf
      obtain ⟨q8, e6, hf⟩ := hf
      refine mm_getA F hH mc_2 (k := 0) (by decide) (hts _ q1047) (fun _ h => h) e6 dX2_moved_34 ?_
      refine lv_sipush (v := 1000) hx hb dX2_moved_37 (by decide) ?_
      refine lv_iload_n hx hb dX2_moved_40 rfl (lv_at hl 1 rfl) ?_
      refine lv_iadd hx hb dX2_moved_41 ?_
      replace hf := b1_i hf
      obtain ⟨v9, e7, hf⟩ := hf
      refine mm_iald F hH e7 dX2_moved_42 ?_
      refine lv_goto (tgt := 48) hx hb dX2_moved_43 (by decide) ?_
      have h1 := Option.some.inj hf
      subst h1
      exact mm_reti F hH hr hlocks rfl rfl dX2_moved_48
  · rw [if_pos c4] at hf
    refine lv_ldc (v := (-1000002)) hx hb hown (hts _ q1110) dX2_moved_18 ?_
    have h1 := Option.some.inj hf
    subst h1
    exact mm_reti F hH hr hlocks rfl rfl dX2_moved_20
/-! IslandHeapModel.report(I)I -/
abbrev rm_X2_report : Room := { frames := 1, cells := 0, slots := 0, locals := 22 }
set_option maxHeartbeats 4000000 in
theorem m_X2_report (l : Launch) (G : mm_G) (h0 : Nat) (x1 : Int32) (σ : mm_M) (rr : Int32) (hf : f_X2_report h0 x1 σ = some rr) : Met l yX2_report (ws_ yX2_report cX2_report 2 ((Option.some .int))) rm_X2_report (mm_Pc G [.ref h0, .int x1] σ) (mm_Qi G rr σ) 0 0 (mm_A G) := by
  refine mm_met (by decide) rfl rfl (by  exact Nat.le_of_ble_eq_true rfl) (fun p e s m below meth c ls F hH hr hlocks hname hl => ?_)
  have hl : lv_has ls 2 [(0, .ref h0), (1, .int x1)] := by  exact hl
  have F : mm_F p s m _ c RX2 cX2_report 2 G := F
  have hx := F.1
  have hb := F.2.1
  have hml := F.2.2.1
  have hown := F.2.2.2.1
  have hts := F.2.2.2.2.1
  unfold f_X2_report at hf
  refine lv_iload_n hx hb dX2_report_0 rfl (lv_at hl 1 rfl) ?_
  refine lv_iconst (v := 0) hx hb dX2_report_1 (by decide) ?_
  refine lv_iconst (v := 5) hx hb dX2_report_2 (by decide) ?_
  replace hf := b1_i hf
  obtain ⟨v1, e1, hf⟩ := hf
  refine mm_ci (va_runS (As := [.int x1, .int (0 : Int32), .int (5 : Int32)]) (rest := []) ⟨hx, hb, hml, hown, hts⟩ (m_X2_in l G x1 (0 : Int32) (5 : Int32) σ v1 e1) (va_cwS 3 hts (lw_S q1107 q1108 q67 q1109) rfl rfl rfl (by decide +kernel) ⟨Nat.le_of_ble_eq_true rfl, Nat.le_of_ble_eq_true rfl⟩) (mm_preS F.2.2.2.2.2 hH) rfl rfl hl.1 rfl (lv_room (Nat.le_of_ble_eq_true rfl)) dX2_report_3 ⟨Nat.le_of_ble_eq_true rfl, Nat.le_of_ble_eq_true rfl⟩) hH (fun H locs hH => ?_)
  refine lv_if_ne (tgt := 12) hx hb dX2_report_6 (by decide) (fun c2 => ?_) (fun c2 => ?_)
  · rw [if_neg c2] at hf
    refine lv_aload_n hx hb dX2_report_12 rfl (lv_at hl 0 rfl) ?_
    replace hf := b1_i hf
    obtain ⟨q3, e2, hf⟩ := hf
    refine mm_getA F hH mc_2 (k := 0) (by decide) (hts _ q1047) (fun _ h => h) e2 dX2_report_13 ?_
    refine lv_sipush (v := 1221) hx hb dX2_report_16 (by decide) ?_
    replace hf := b1_i hf
    obtain ⟨v4, e3, hf⟩ := hf
    refine mm_iald F hH e3 dX2_report_19 ?_
    refine lv_iconst (v := 1) hx hb dX2_report_20 (by decide) ?_
    refine lv_icmp_ne (tgt := 37) hx hb dX2_report_21 (by decide) (fun c5 => ?_) (fun c5 => ?_)
    · rw [if_neg c5] at hf
      refine lv_ldc (v := (-1000003)) hx hb hown (hts _ q1178) dX2_report_37 ?_
      have h1 := Option.some.inj hf
      subst h1
      exact mm_reti F hH hr hlocks rfl rfl dX2_report_39
    · rw [if_pos c5] at hf
      refine lv_aload_n hx hb dX2_report_24 rfl (lv_at hl 0 rfl) ?_
      replace hf := b1_i hf
      obtain ⟨q6, e4, hf⟩ := hf
      refine mm_getA F hH mc_2 (k := 0) (by decide) (hts _ q1047) (fun _ h => h) e4 dX2_report_25 ?_
      refine lv_sipush (v := 1210) hx hb dX2_report_28 (by decide) ?_
      refine lv_iload_n hx hb dX2_report_31 rfl (lv_at hl 1 rfl) ?_
      refine lv_iadd hx hb dX2_report_32 ?_
      replace hf := b1_i hf
      obtain ⟨v7, e5, hf⟩ := hf
      refine mm_iald F hH e5 dX2_report_33 ?_
      refine lv_goto (tgt := 39) hx hb dX2_report_34 (by decide) ?_
      have h1 := Option.some.inj hf
      subst h1
      exact mm_reti F hH hr hlocks rfl rfl dX2_report_39
  · rw [if_pos c2] at hf
    refine lv_ldc (v := (-1000002)) hx hb hown (hts _ q1110) dX2_report_9 ?_
    have h1 := Option.some.inj hf
    subst h1
    exact mm_reti F hH hr hlocks rfl rfl dX2_report_11
/-! IslandHeapModel.reachedWords()I -/
abbrev rm_X2_reachedWords : Room := { frames := 0, cells := 0, slots := 0, locals := 0 }
set_option maxHeartbeats 4000000 in
theorem w_X2_reachedWords_4 {p : Program} {l : Launch} {e : Env} {s : State} {m : MethodId} {av : Array Value} {below : List Frame} {meth : Method} {c : Code} {G : mm_G} {rr : Int32} {n : Nat} {σ : mm_M} {h0 : Nat} (F : mm_F p s m av c RX2 cX2_reachedWords 3 G) (hr : meth.sig.returnType = (Option.some .int)) (hlocks : meth.locks = false) (hname : meth.name = yX2_reachedWords.name) (IH4 : ∀ (x1 : Int32) (x2 : Int32) (H : Heap) (locs : List Loc) (ls : Array Slot), mm_H G s σ H locs → lv_has ls 3 [(0, .ref h0), (1, .int x1), (2, .int x2)] → itn (s_X2_reachedWords h0 σ) n (x1, x2) = some rr → W p l e rm_X2_reachedWords s m av below meth c H locs 0 0 (MQ below (mm_Qi G rr σ) av s 0 0 (mm_A G)) (F0 m 4 ls []))  (x1 : Int32) (x2 : Int32)  (hf : evn (s_X2_reachedWords h0 σ) n (g_X2_reachedWords_4 h0 x1 x2 σ) = some rr) {H : Heap} {locs : List Loc} {ls : Array Slot} (hH : mm_H G s σ H locs) (hl : lv_has ls 3 [(0, .ref h0), (1, .int x1), (2, .int x2)]) : W p l e rm_X2_reachedWords s m av below meth c H locs 0 0 (MQ below (mm_Qi G rr σ) av s 0 0 (mm_A G)) (F0 m 4 ls []) := by
  have hx := F.1
  have hb := F.2.1
  have hml := F.2.2.1
  have hown := F.2.2.2.1
  have hts := F.2.2.2.2.1
  unfold g_X2_reachedWords_4 at hf
  refine lv_iload_n hx hb dX2_reachedWords_4 rfl (lv_at hl 2 rfl) ?_
  refine lv_aload_n hx hb dX2_reachedWords_5 rfl (lv_at hl 0 rfl) ?_
  replace hf := evn_b1 hf
  obtain ⟨q1, e1, hf⟩ := hf
  refine mm_getA F hH mc_2 (k := 0) (by decide) (hts _ q1047) (fun _ h => h) e1 dX2_reachedWords_6 ?_
  refine lv_sipush (v := 1216) hx hb dX2_reachedWords_9 (by decide) ?_
  replace hf := evn_b1 hf
  obtain ⟨v2, e2, hf⟩ := hf
  refine mm_iald F hH e2 dX2_reachedWords_12 ?_
  refine lv_icmp_ge (tgt := 47) hx hb dX2_reachedWords_13 (by decide) (fun c3 => ?_) (fun c3 => ?_)
  · rw [if_pos c3] at hf
    refine lv_iload_n hx hb dX2_reachedWords_47 rfl (lv_at hl 1 rfl) ?_
    rw [evn_r] at hf
    have h1 := Option.some.inj hf
    subst h1
    exact mm_reti F hH hr hlocks rfl rfl dX2_reachedWords_48
  · rw [if_neg c3] at hf
    refine lv_iload_n hx hb dX2_reachedWords_16 rfl (lv_at hl 1 rfl) ?_
    refine lv_aload_n hx hb dX2_reachedWords_17 rfl (lv_at hl 0 rfl) ?_
    replace hf := evn_b1 hf
    obtain ⟨q4, e3, hf⟩ := hf
    refine mm_getA F hH mc_2 (k := 7) (by decide) (hts _ q1054) (fun _ h => h) e3 dX2_reachedWords_18 ?_
    refine lv_iload_n hx hb dX2_reachedWords_21 rfl (lv_at hl 2 rfl) ?_
    replace hf := evn_b1 hf
    obtain ⟨v5, e4, hf⟩ := hf
    refine mm_iald F hH e4 dX2_reachedWords_22 ?_
    refine lv_iconst (v := (-1)) hx hb dX2_reachedWords_23 (by decide) ?_
    refine lv_icmp_eq (tgt := 38) hx hb dX2_reachedWords_24 (by decide) (fun c6 => ?_) (fun c6 => ?_)
    · rw [if_pos c6] at hf
      refine lv_iconst (v := 0) hx hb dX2_reachedWords_38 (by decide) ?_
      refine lv_iadd hx hb dX2_reachedWords_39 ?_
      refine lv_istore_n (lv' := [(1, .int (x1 + (0 : Int32))), (0, .ref h0), (2, .int x2)]) hx hb dX2_reachedWords_40 rfl hl (by decide) rfl (fun ls hl => ?_)
      refine lv_iinc (v := x2 + (1 : Int32)) (lv' := [(2, .int (x2 + (1 : Int32))), (1, .int (x1 + (0 : Int32))), (0, .ref h0)]) hx hb dX2_reachedWords_41 hl (k := 2) rfl rfl (by decide) rfl (fun ls hl => ?_)
      refine lv_goto (tgt := 4) hx hb dX2_reachedWords_44 (by decide) ?_
      rw [evn_l] at hf
      exact IH4 (x1 + (0 : Int32)) (x2 + (1 : Int32)) _ _ _ hH (lv_sub hl [2, 1, 0] rfl) hf
    · rw [if_neg c6] at hf
      refine lv_aload_n hx hb dX2_reachedWords_27 rfl (lv_at hl 0 rfl) ?_
      replace hf := evn_b1 hf
      obtain ⟨q7, e5, hf⟩ := hf
      refine mm_getA F hH mc_2 (k := 0) (by decide) (hts _ q1047) (fun _ h => h) e5 dX2_reachedWords_28 ?_
      refine lv_iconst (v := 0) hx hb dX2_reachedWords_31 (by decide) ?_
      refine lv_iload_n hx hb dX2_reachedWords_32 rfl (lv_at hl 2 rfl) ?_
      refine lv_iadd hx hb dX2_reachedWords_33 ?_
      replace hf := evn_b1 hf
      obtain ⟨v8, e6, hf⟩ := hf
      refine mm_iald F hH e6 dX2_reachedWords_34 ?_
      refine lv_goto (tgt := 39) hx hb dX2_reachedWords_35 (by decide) ?_
      refine lv_iadd hx hb dX2_reachedWords_39 ?_
      refine lv_istore_n (lv' := [(1, .int (x1 + v8)), (0, .ref h0), (2, .int x2)]) hx hb dX2_reachedWords_40 rfl hl (by decide) rfl (fun ls hl => ?_)
      refine lv_iinc (v := x2 + (1 : Int32)) (lv' := [(2, .int (x2 + (1 : Int32))), (1, .int (x1 + v8)), (0, .ref h0)]) hx hb dX2_reachedWords_41 hl (k := 2) rfl rfl (by decide) rfl (fun ls hl => ?_)
      refine lv_goto (tgt := 4) hx hb dX2_reachedWords_44 (by decide) ?_
      rw [evn_l] at hf
      exact IH4 (x1 + v8) (x2 + (1 : Int32)) _ _ _ hH (lv_sub hl [2, 1, 0] rfl) hf
set_option maxHeartbeats 4000000 in
theorem w_X2_reachedWords_0 {p : Program} {l : Launch} {e : Env} {s : State} {m : MethodId} {av : Array Value} {below : List Frame} {meth : Method} {c : Code} {G : mm_G} {rr : Int32} {n : Nat} {σ : mm_M} {h0 : Nat} (F : mm_F p s m av c RX2 cX2_reachedWords 3 G) (hr : meth.sig.returnType = (Option.some .int)) (hlocks : meth.locks = false) (hname : meth.name = yX2_reachedWords.name) (IH4 : ∀ (x1 : Int32) (x2 : Int32) (H : Heap) (locs : List Loc) (ls : Array Slot), mm_H G s σ H locs → lv_has ls 3 [(0, .ref h0), (1, .int x1), (2, .int x2)] → itn (s_X2_reachedWords h0 σ) n (x1, x2) = some rr → W p l e rm_X2_reachedWords s m av below meth c H locs 0 0 (MQ below (mm_Qi G rr σ) av s 0 0 (mm_A G)) (F0 m 4 ls []))    (hf : evn (s_X2_reachedWords h0 σ) n (g_X2_reachedWords_0 h0 σ) = some rr) {H : Heap} {locs : List Loc} {ls : Array Slot} (hH : mm_H G s σ H locs) (hl : lv_has ls 3 [(0, .ref h0)]) : W p l e rm_X2_reachedWords s m av below meth c H locs 0 0 (MQ below (mm_Qi G rr σ) av s 0 0 (mm_A G)) (F0 m 0 ls []) := by
  have hx := F.1
  have hb := F.2.1
  have hml := F.2.2.1
  have hown := F.2.2.2.1
  have hts := F.2.2.2.2.1
  unfold g_X2_reachedWords_0 at hf
  refine lv_iconst (v := 0) hx hb dX2_reachedWords_0 (by decide) ?_
  refine lv_istore_n (lv' := [(1, .int (0 : Int32)), (0, .ref h0)]) hx hb dX2_reachedWords_1 rfl hl (by decide) rfl (fun ls hl => ?_)
  refine lv_iconst (v := 0) hx hb dX2_reachedWords_2 (by decide) ?_
  refine lv_istore_n (lv' := [(2, .int (0 : Int32)), (1, .int (0 : Int32)), (0, .ref h0)]) hx hb dX2_reachedWords_3 rfl hl (by decide) rfl (fun ls hl => ?_)
  rw [evn_l] at hf
  exact IH4 (0 : Int32) (0 : Int32) _ _ _ hH (lv_sub hl [2, 1, 0] rfl) hf
set_option maxHeartbeats 4000000 in
theorem l_X2_reachedWords {p : Program} {l : Launch} {e : Env} {s : State} {m : MethodId} {av : Array Value} {below : List Frame} {meth : Method} {c : Code} {G : mm_G} {rr : Int32} {σ : mm_M} {h0 : Nat} (F : mm_F p s m av c RX2 cX2_reachedWords 3 G) (hr : meth.sig.returnType = (Option.some .int)) (hlocks : meth.locks = false) (hname : meth.name = yX2_reachedWords.name) : ∀ n : Nat, (∀ (x1 : Int32) (x2 : Int32) (H : Heap) (locs : List Loc) (ls : Array Slot), mm_H G s σ H locs → lv_has ls 3 [(0, .ref h0), (1, .int x1), (2, .int x2)] → itn (s_X2_reachedWords h0 σ) n (x1, x2) = some rr → W p l e rm_X2_reachedWords s m av below meth c H locs 0 0 (MQ below (mm_Qi G rr σ) av s 0 0 (mm_A G)) (F0 m 4 ls [])) := by
  intro n
  induction n with
  | zero =>
    exact fun x1 x2 H locs ls hH hl hf => by cases hf
  | succ n ih =>
    have IH4 := ih
    intro x1 x2 H locs ls hH hl hf
    rw [itn_s] at hf
    exact w_X2_reachedWords_4 F hr hlocks hname IH4 x1 x2 hf hH hl
set_option maxHeartbeats 4000000 in
theorem m_X2_reachedWords (l : Launch) (G : mm_G) (h0 : Nat) (σ : mm_M) (rr : Int32) (hf : f_X2_reachedWords h0 σ = some rr) : Met l yX2_reachedWords (ws_ yX2_reachedWords cX2_reachedWords 3 ((Option.some .int))) rm_X2_reachedWords (mm_Pc G [.ref h0] σ) (mm_Qi G rr σ) 0 0 (mm_A G) := by
  refine mm_met (by decide) rfl rfl (by  exact Nat.le_of_ble_eq_true rfl) (fun p e s m below meth c ls F hH hr hlocks hname hl => ?_)
  have hl : lv_has ls 3 [(0, .ref h0)] := by  exact hl
  have F : mm_F p s m _ c RX2 cX2_reachedWords 3 G := F
  unfold f_X2_reachedWords at hf
  obtain ⟨n, hf⟩ := lgo_i hf
  have IH := l_X2_reachedWords (l := l) (e := e) (below := below) (rr := rr) (σ := σ) (h0 := h0) F hr hlocks hname n
  exact w_X2_reachedWords_0 F hr hlocks hname IH  hf hH (lv_sub hl [0] rfl)
/-! IslandHeapModel.garbage()I -/
abbrev rm_X2_garbage : Room := { frames := 4, cells := 0, slots := 0, locals := 93 }
set_option maxHeartbeats 4000000 in
theorem m_X2_garbage (l : Launch) (G : mm_G) (h0 : Nat) (σ : mm_M) (σf : mm_M) (rr : Int32) (hf : f_X2_garbage h0 σ = some (rr, σf)) : Met l yX2_garbage (ws_ yX2_garbage cX2_garbage 1 ((Option.some .int))) rm_X2_garbage (mm_Pc G [.ref h0] σ) (mm_Qi G rr σf) 0 0 (mm_A G) := by
  refine mm_met (by decide) rfl rfl (by  exact Nat.le_of_ble_eq_true rfl) (fun p e s m below meth c ls F hH hr hlocks hname hl => ?_)
  have hl : lv_has ls 1 [(0, .ref h0)] := by  exact hl
  have F : mm_F p s m _ c RX2 cX2_garbage 1 G := F
  have hx := F.1
  have hb := F.2.1
  have hml := F.2.2.1
  have hown := F.2.2.2.1
  have hts := F.2.2.2.2.1
  unfold f_X2_garbage at hf
  refine lv_aload_n hx hb dX2_garbage_0 rfl (lv_at hl 0 rfl) ?_
  refine lv_iconst (v := (-1)) hx hb dX2_garbage_1 (by decide) ?_
  replace hf := b1_i hf
  obtain ⟨u, e1, hf⟩ := hf
  obtain ⟨fs, ek⟩ := ck_i e1
  replace hf := b1_i hf
  obtain ⟨σ1, e2, hf⟩ := hf
  refine mm_cv (va_runV (As := [.int (-1 : Int32)]) (rest := []) ⟨hx, hb, hml, hown, hts⟩ (m_X2_reaches l G h0 (-1 : Int32) σ σ1 e2) (cwV 1 hts (lw_V q1136 q1138 qs37 q67 q1139) rfl rfl rfl (by decide +kernel) ⟨Nat.le_of_ble_eq_true rfl, Nat.le_of_ble_eq_true rfl⟩) (mm_preV F.2.2.2.2.2 hH (ci := 2) rfl ek) rfl rfl hl.1 rfl (lv_room (Nat.le_of_ble_eq_true rfl)) dX2_garbage_2 ⟨Nat.le_of_ble_eq_true rfl, Nat.le_of_ble_eq_true rfl⟩) hH (fun H locs hH => ?_)
  refine lv_aload_n hx hb dX2_garbage_5 rfl (lv_at hl 0 rfl) ?_
  replace hf := b1_i hf
  obtain ⟨u, e3, hf⟩ := hf
  obtain ⟨fs, ek⟩ := ck_i e3
  replace hf := b1_i hf
  obtain ⟨v2, e4, hf⟩ := hf
  refine mm_ci (va_runV (As := []) (rest := []) ⟨hx, hb, hml, hown, hts⟩ (m_X2_occupied l G h0 σ1 v2 e4) (cwV 0 hts (lw_V q1207 q1209 qs43 q67 q1210) rfl rfl rfl (by decide +kernel) ⟨Nat.le_of_ble_eq_true rfl, Nat.le_of_ble_eq_true rfl⟩) (mm_preV F.2.2.2.2.2 hH (ci := 2) rfl ek) rfl rfl hl.1 rfl (lv_room (Nat.le_of_ble_eq_true rfl)) dX2_garbage_6 ⟨Nat.le_of_ble_eq_true rfl, Nat.le_of_ble_eq_true rfl⟩) hH (fun H locs hH => ?_)
  refine lv_aload_n hx hb dX2_garbage_9 rfl (lv_at hl 0 rfl) ?_
  replace hf := b1_i hf
  obtain ⟨u, e5, hf⟩ := hf
  obtain ⟨fs, ek⟩ := ck_i e5
  replace hf := b1_i hf
  obtain ⟨v3, e6, hf⟩ := hf
  refine mm_ci (va_runV (As := []) (rest := [.int v2]) ⟨hx, hb, hml, hown, hts⟩ (m_X2_reachedWords l G h0 σ1 v3 e6) (cwV 0 hts (lw_V q1247 q1249 qs50 q67 q1250) rfl rfl rfl (by decide +kernel) ⟨Nat.le_of_ble_eq_true rfl, Nat.le_of_ble_eq_true rfl⟩) (mm_preV F.2.2.2.2.2 hH (ci := 2) rfl ek) rfl rfl hl.1 rfl (lv_room (Nat.le_of_ble_eq_true rfl)) dX2_garbage_10 ⟨Nat.le_of_ble_eq_true rfl, Nat.le_of_ble_eq_true rfl⟩) hH (fun H locs hH => ?_)
  refine lv_isub hx hb dX2_garbage_13 ?_
  obtain ⟨h1, h2⟩ := Prod.mk.inj (Option.some.inj hf)
  subst h1
  subst h2
  exact mm_reti F hH hr hlocks rfl rfl dX2_garbage_14
/-! IslandHeapModel.distance(I)I -/
abbrev rm_X2_distance : Room := { frames := 4, cells := 0, slots := 0, locals := 93 }
set_option maxHeartbeats 4000000 in
theorem m_X2_distance (l : Launch) (G : mm_G) (h0 : Nat) (x1 : Int32) (σ : mm_M) (σf : mm_M) (rr : Int32) (hf : f_X2_distance h0 x1 σ = some (rr, σf)) : Met l yX2_distance (ws_ yX2_distance cX2_distance 3 ((Option.some .int))) rm_X2_distance (mm_Pc G [.ref h0, .int x1] σ) (mm_Qi G rr σf) 0 0 (mm_A G) := by
  refine mm_met (by decide) rfl rfl (by  exact Nat.le_of_ble_eq_true rfl) (fun p e s m below meth c ls F hH hr hlocks hname hl => ?_)
  have hl : lv_has ls 3 [(0, .ref h0), (1, .int x1)] := by  exact hl
  have F : mm_F p s m _ c RX2 cX2_distance 3 G := F
  have hx := F.1
  have hb := F.2.1
  have hml := F.2.2.1
  have hown := F.2.2.2.1
  have hts := F.2.2.2.2.1
  unfold f_X2_distance at hf
  refine lv_aload_n hx hb dX2_distance_0 rfl (lv_at hl 0 rfl) ?_
  refine lv_iload_n hx hb dX2_distance_1 rfl (lv_at hl 1 rfl) ?_
  replace hf := b1_i hf
  obtain ⟨u, e1, hf⟩ := hf
  obtain ⟨fs, ek⟩ := ck_i e1
  replace hf := b1_i hf
  obtain ⟨v1, e2, hf⟩ := hf
  refine mm_ci (va_runV (As := [.int x1]) (rest := []) ⟨hx, hb, hml, hown, hts⟩ (m_X2_objectOf l G h0 x1 σ v1 e2) (cwV 1 hts (lw_V q1124 q1126 qs34 q67 q1127) rfl rfl rfl (by decide +kernel) ⟨Nat.le_of_ble_eq_true rfl, Nat.le_of_ble_eq_true rfl⟩) (mm_preV F.2.2.2.2.2 hH (ci := 2) rfl ek) rfl rfl hl.1 rfl (lv_room (Nat.le_of_ble_eq_true rfl)) dX2_distance_2 ⟨Nat.le_of_ble_eq_true rfl, Nat.le_of_ble_eq_true rfl⟩) hH (fun H locs hH => ?_)
  refine lv_istore_n (lv' := [(2, .int v1), (0, .ref h0), (1, .int x1)]) hx hb dX2_distance_5 rfl hl (by decide) rfl (fun ls hl => ?_)
  refine lv_iload_n hx hb dX2_distance_6 rfl (lv_at hl 0 rfl) ?_
  refine lv_iconst (v := (-1)) hx hb dX2_distance_7 (by decide) ?_
  refine lv_icmp_ne (tgt := 14) hx hb dX2_distance_8 (by decide) (fun c2 => ?_) (fun c2 => ?_)
  · rw [if_neg c2] at hf
    refine lv_aload_n hx hb dX2_distance_14 rfl (lv_at hl 1 rfl) ?_
    refine lv_iconst (v := (-1)) hx hb dX2_distance_15 (by decide) ?_
    replace hf := b1_i hf
    obtain ⟨u, e3, hf⟩ := hf
    obtain ⟨fs, ek⟩ := ck_i e3
    replace hf := b1_i hf
    obtain ⟨σ3, e4, hf⟩ := hf
    refine mm_cv (va_runV (As := [.int (-1 : Int32)]) (rest := []) ⟨hx, hb, hml, hown, hts⟩ (m_X2_reaches l G h0 (-1 : Int32) σ σ3 e4) (cwV 1 hts (lw_V q1136 q1138 qs37 q67 q1139) rfl rfl rfl (by decide +kernel) ⟨Nat.le_of_ble_eq_true rfl, Nat.le_of_ble_eq_true rfl⟩) (mm_preV F.2.2.2.2.2 hH (ci := 2) rfl ek) rfl rfl hl.1 rfl (lv_room (Nat.le_of_ble_eq_true rfl)) dX2_distance_16 ⟨Nat.le_of_ble_eq_true rfl, Nat.le_of_ble_eq_true rfl⟩) hH (fun H locs hH => ?_)
    refine lv_aload_n hx hb dX2_distance_19 rfl (lv_at hl 1 rfl) ?_
    replace hf := b1_i hf
    obtain ⟨q4, e5, hf⟩ := hf
    refine mm_getA F hH mc_2 (k := 7) (by decide) (hts _ q1054) (fun _ h => h) e5 dX2_distance_20 ?_
    refine lv_iload_n hx hb dX2_distance_23 rfl (lv_at hl 0 rfl) ?_
    replace hf := b1_i hf
    obtain ⟨v5, e6, hf⟩ := hf
    refine mm_iald F hH e6 dX2_distance_24 ?_
    obtain ⟨h1, h2⟩ := Prod.mk.inj (Option.some.inj hf)
    subst h1
    subst h2
    exact mm_reti F hH hr hlocks rfl rfl dX2_distance_25
  · rw [if_pos c2] at hf
    refine lv_ldc (v := (-1000002)) hx hb hown (hts _ q1110) dX2_distance_11 ?_
    obtain ⟨h1, h2⟩ := Prod.mk.inj (Option.some.inj hf)
    subst h1
    subst h2
    exact mm_reti F hH hr hlocks rfl rfl dX2_distance_13
/-! IslandHeapModel.retained(I)I -/
abbrev rm_X2_retained : Room := { frames := 4, cells := 0, slots := 0, locals := 93 }
set_option maxHeartbeats 4000000 in
theorem m_X2_retained (l : Launch) (G : mm_G) (h0 : Nat) (x1 : Int32) (σ : mm_M) (σf : mm_M) (rr : Int32) (hf : f_X2_retained h0 x1 σ = some (rr, σf)) : Met l yX2_retained (ws_ yX2_retained cX2_retained 4 ((Option.some .int))) rm_X2_retained (mm_Pc G [.ref h0, .int x1] σ) (mm_Qi G rr σf) 0 0 (mm_A G) := by
  refine mm_met (by decide) rfl rfl (by  exact Nat.le_of_ble_eq_true rfl) (fun p e s m below meth c ls F hH hr hlocks hname hl => ?_)
  have hl : lv_has ls 4 [(0, .ref h0), (1, .int x1)] := by  exact hl
  have F : mm_F p s m _ c RX2 cX2_retained 4 G := F
  have hx := F.1
  have hb := F.2.1
  have hml := F.2.2.1
  have hown := F.2.2.2.1
  have hts := F.2.2.2.2.1
  unfold f_X2_retained at hf
  refine lv_aload_n hx hb dX2_retained_0 rfl (lv_at hl 0 rfl) ?_
  refine lv_iload_n hx hb dX2_retained_1 rfl (lv_at hl 1 rfl) ?_
  replace hf := b1_i hf
  obtain ⟨u, e1, hf⟩ := hf
  obtain ⟨fs, ek⟩ := ck_i e1
  replace hf := b1_i hf
  obtain ⟨v1, e2, hf⟩ := hf
  refine mm_ci (va_runV (As := [.int x1]) (rest := []) ⟨hx, hb, hml, hown, hts⟩ (m_X2_objectOf l G h0 x1 σ v1 e2) (cwV 1 hts (lw_V q1124 q1126 qs34 q67 q1127) rfl rfl rfl (by decide +kernel) ⟨Nat.le_of_ble_eq_true rfl, Nat.le_of_ble_eq_true rfl⟩) (mm_preV F.2.2.2.2.2 hH (ci := 2) rfl ek) rfl rfl hl.1 rfl (lv_room (Nat.le_of_ble_eq_true rfl)) dX2_retained_2 ⟨Nat.le_of_ble_eq_true rfl, Nat.le_of_ble_eq_true rfl⟩) hH (fun H locs hH => ?_)
  refine lv_istore_n (lv' := [(2, .int v1), (0, .ref h0), (1, .int x1)]) hx hb dX2_retained_5 rfl hl (by decide) rfl (fun ls hl => ?_)
  refine lv_iload_n hx hb dX2_retained_6 rfl (lv_at hl 0 rfl) ?_
  refine lv_iconst (v := (-1)) hx hb dX2_retained_7 (by decide) ?_
  refine lv_icmp_ne (tgt := 14) hx hb dX2_retained_8 (by decide) (fun c2 => ?_) (fun c2 => ?_)
  · rw [if_neg c2] at hf
    refine lv_aload_n hx hb dX2_retained_14 rfl (lv_at hl 1 rfl) ?_
    refine lv_iconst (v := (-1)) hx hb dX2_retained_15 (by decide) ?_
    replace hf := b1_i hf
    obtain ⟨u, e3, hf⟩ := hf
    obtain ⟨fs, ek⟩ := ck_i e3
    replace hf := b1_i hf
    obtain ⟨σ3, e4, hf⟩ := hf
    refine mm_cv (va_runV (As := [.int (-1 : Int32)]) (rest := []) ⟨hx, hb, hml, hown, hts⟩ (m_X2_reaches l G h0 (-1 : Int32) σ σ3 e4) (cwV 1 hts (lw_V q1136 q1138 qs37 q67 q1139) rfl rfl rfl (by decide +kernel) ⟨Nat.le_of_ble_eq_true rfl, Nat.le_of_ble_eq_true rfl⟩) (mm_preV F.2.2.2.2.2 hH (ci := 2) rfl ek) rfl rfl hl.1 rfl (lv_room (Nat.le_of_ble_eq_true rfl)) dX2_retained_16 ⟨Nat.le_of_ble_eq_true rfl, Nat.le_of_ble_eq_true rfl⟩) hH (fun H locs hH => ?_)
    refine lv_aload_n hx hb dX2_retained_19 rfl (lv_at hl 1 rfl) ?_
    replace hf := b1_i hf
    obtain ⟨u, e5, hf⟩ := hf
    obtain ⟨fs, ek⟩ := ck_i e5
    replace hf := b1_i hf
    obtain ⟨v4, e6, hf⟩ := hf
    refine mm_ci (va_runV (As := []) (rest := []) ⟨hx, hb, hml, hown, hts⟩ (m_X2_reachedWords l G h0 σ3 v4 e6) (cwV 0 hts (lw_V q1247 q1249 qs50 q67 q1250) rfl rfl rfl (by decide +kernel) ⟨Nat.le_of_ble_eq_true rfl, Nat.le_of_ble_eq_true rfl⟩) (mm_preV F.2.2.2.2.2 hH (ci := 2) rfl ek) rfl rfl hl.1 rfl (lv_room (Nat.le_of_ble_eq_true rfl)) dX2_retained_20 ⟨Nat.le_of_ble_eq_true rfl, Nat.le_of_ble_eq_true rfl⟩) hH (fun H locs hH => ?_)
    refine lv_istore_n (lv' := [(3, .int v4), (2, .int v1), (0, .ref h0), (1, .int x1)]) hx hb dX2_retained_23 rfl hl (by decide) rfl (fun ls hl => ?_)
    refine lv_aload_n hx hb dX2_retained_24 rfl (lv_at hl 2 rfl) ?_
    replace hf := b1_i hf
    obtain ⟨q5, e7, hf⟩ := hf
    refine mm_getA F hH mc_2 (k := 7) (by decide) (hts _ q1054) (fun _ h => h) e7 dX2_retained_25 ?_
    refine lv_iload_n hx hb dX2_retained_28 rfl (lv_at hl 1 rfl) ?_
    replace hf := b1_i hf
    obtain ⟨v6, e8, hf⟩ := hf
    refine mm_iald F hH e8 dX2_retained_29 ?_
    refine lv_iconst (v := (-1)) hx hb dX2_retained_30 (by decide) ?_
    refine lv_icmp_ne (tgt := 36) hx hb dX2_retained_31 (by decide) (fun c7 => ?_) (fun c7 => ?_)
    · rw [if_neg c7] at hf
      refine lv_aload_n hx hb dX2_retained_36 rfl (lv_at hl 2 rfl) ?_
      refine lv_iload_n hx hb dX2_retained_37 rfl (lv_at hl 1 rfl) ?_
      replace hf := b1_i hf
      obtain ⟨u, e9, hf⟩ := hf
      obtain ⟨fs, ek⟩ := ck_i e9
      replace hf := b1_i hf
      obtain ⟨σ8, e10, hf⟩ := hf
      refine mm_cv (va_runV (As := [.int v1]) (rest := []) ⟨hx, hb, hml, hown, hts⟩ (m_X2_reaches l G h0 v1 σ3 σ8 e10) (cwV 1 hts (lw_V q1136 q1138 qs37 q67 q1139) rfl rfl rfl (by decide +kernel) ⟨Nat.le_of_ble_eq_true rfl, Nat.le_of_ble_eq_true rfl⟩) (mm_preV F.2.2.2.2.2 hH (ci := 2) rfl ek) rfl rfl hl.1 rfl (lv_room (Nat.le_of_ble_eq_true rfl)) dX2_retained_38 ⟨Nat.le_of_ble_eq_true rfl, Nat.le_of_ble_eq_true rfl⟩) hH (fun H locs hH => ?_)
      refine lv_iload_n hx hb dX2_retained_41 rfl (lv_at hl 0 rfl) ?_
      refine lv_aload_n hx hb dX2_retained_42 rfl (lv_at hl 2 rfl) ?_
      replace hf := b1_i hf
      obtain ⟨u, e11, hf⟩ := hf
      obtain ⟨fs, ek⟩ := ck_i e11
      replace hf := b1_i hf
      obtain ⟨v9, e12, hf⟩ := hf
      refine mm_ci (va_runV (As := []) (rest := [.int v4]) ⟨hx, hb, hml, hown, hts⟩ (m_X2_reachedWords l G h0 σ8 v9 e12) (cwV 0 hts (lw_V q1247 q1249 qs50 q67 q1250) rfl rfl rfl (by decide +kernel) ⟨Nat.le_of_ble_eq_true rfl, Nat.le_of_ble_eq_true rfl⟩) (mm_preV F.2.2.2.2.2 hH (ci := 2) rfl ek) rfl rfl hl.1 rfl (lv_room (Nat.le_of_ble_eq_true rfl)) dX2_retained_43 ⟨Nat.le_of_ble_eq_true rfl, Nat.le_of_ble_eq_true rfl⟩) hH (fun H locs hH => ?_)
      refine lv_isub hx hb dX2_retained_46 ?_
      obtain ⟨h1, h2⟩ := Prod.mk.inj (Option.some.inj hf)
      subst h1
      subst h2
      exact mm_reti F hH hr hlocks rfl rfl dX2_retained_47
    · rw [if_pos c7] at hf
      refine lv_iconst (v := 0) hx hb dX2_retained_34 (by decide) ?_
      obtain ⟨h1, h2⟩ := Prod.mk.inj (Option.some.inj hf)
      subst h1
      subst h2
      exact mm_reti F hH hr hlocks rfl rfl dX2_retained_35
  · rw [if_pos c2] at hf
    refine lv_ldc (v := (-1000002)) hx hb hown (hts _ q1110) dX2_retained_11 ?_
    obtain ⟨h1, h2⟩ := Prod.mk.inj (Option.some.inj hf)
    subst h1
    subst h2
    exact mm_reti F hH hr hlocks rfl rfl dX2_retained_13
/-! IslandHeapModel.free(I)I -/
abbrev rm_X2_free : Room := { frames := 1, cells := 0, slots := 0, locals := 22 }
set_option maxHeartbeats 4000000 in
theorem w_X2_free_28 {p : Program} {l : Launch} {e : Env} {s : State} {m : MethodId} {av : Array Value} {below : List Frame} {meth : Method} {c : Code} {G : mm_G} {rr : Int32} {n : Nat} {σ : mm_M} {h0 : Nat} {x1 : Int32} (F : mm_F p s m av c RX2 cX2_free 9 G) (hr : meth.sig.returnType = (Option.some .int)) (hlocks : meth.locks = false) (hname : meth.name = yX2_free.name) (IH28 : ∀ (x2 : Int32) (x3 : Int32) (x4 : Int32) (x5 : Int32) (x6 : Int32) (x7 : Int32) (H : Heap) (locs : List Loc) (ls : Array Slot), mm_H G s σ H locs → lv_has ls 9 [(0, .ref h0), (1, .int x1), (2, .int x2), (3, .int x3), (4, .int x4), (5, .int x5), (6, .int x6), (7, .int x7)] → itn (s_X2_free h0 x1 σ) n (.inl (x2, x3, x4, x5, x6, x7)) = some rr → W p l e rm_X2_free s m av below meth c H locs 0 0 (MQ below (mm_Qi G rr σ) av s 0 0 (mm_A G)) (F0 m 28 ls [])) (IH44 : ∀ (x2 : Int32) (x3 : Int32) (x4 : Int32) (x5 : Int32) (x6 : Int32) (x7 : Int32) (x8 : Int32) (H : Heap) (locs : List Loc) (ls : Array Slot), mm_H G s σ H locs → lv_has ls 9 [(0, .ref h0), (1, .int x1), (2, .int x2), (3, .int x3), (4, .int x4), (5, .int x5), (6, .int x6), (7, .int x7), (8, .int x8)] → itn (s_X2_free h0 x1 σ) n (.inr (x2, x3, x4, x5, x6, x7, x8)) = some rr → W p l e rm_X2_free s m av below meth c H locs 0 0 (MQ below (mm_Qi G rr σ) av s 0 0 (mm_A G)) (F0 m 44 ls []))  (x2 : Int32) (x3 : Int32) (x4 : Int32) (x5 : Int32) (x6 : Int32) (x7 : Int32)  (hf : evn (s_X2_free h0 x1 σ) n (g_X2_free_28 h0 x1 x2 x3 x4 x5 x6 x7 σ) = some rr) {H : Heap} {locs : List Loc} {ls : Array Slot} (hH : mm_H G s σ H locs) (hl : lv_has ls 9 [(0, .ref h0), (1, .int x1), (2, .int x2), (3, .int x3), (4, .int x4), (5, .int x5), (6, .int x6), (7, .int x7)]) : W p l e rm_X2_free s m av below meth c H locs 0 0 (MQ below (mm_Qi G rr σ) av s 0 0 (mm_A G)) (F0 m 28 ls []) := by
  have hx := F.1
  have hb := F.2.1
  have hml := F.2.2.1
  have hown := F.2.2.2.1
  have hts := F.2.2.2.2.1
  unfold g_X2_free_28 at hf
  refine lv_iload hx hb dX2_free_28 (lv_at hl 7 rfl) ?_
  refine lv_aload_n hx hb dX2_free_30 rfl (lv_at hl 0 rfl) ?_
  replace hf := evn_b1 hf
  obtain ⟨q1, e1, hf⟩ := hf
  refine mm_getA F hH mc_2 (k := 0) (by decide) (hts _ q1047) (fun _ h => h) e1 dX2_free_31 ?_
  refine lv_sipush (v := 1216) hx hb dX2_free_34 (by decide) ?_
  replace hf := evn_b1 hf
  obtain ⟨v2, e2, hf⟩ := hf
  refine mm_iald F hH e2 dX2_free_37 ?_
  refine lv_icmp_ge (tgt := 185) hx hb dX2_free_38 (by decide) (fun c3 => ?_) (fun c3 => ?_)
  · rw [if_pos c3] at hf
    refine lv_iload_n hx hb dX2_free_185 rfl (lv_at hl 1 rfl) ?_
    refine lv_if_ne (tgt := 193) hx hb dX2_free_186 (by decide) (fun c4 => ?_) (fun c4 => ?_)
    · rw [if_neg c4] at hf
      refine lv_iload_n hx hb dX2_free_193 rfl (lv_at hl 1 rfl) ?_
      refine lv_iconst (v := 1) hx hb dX2_free_194 (by decide) ?_
      refine lv_icmp_ne (tgt := 202) hx hb dX2_free_195 (by decide) (fun c5 => ?_) (fun c5 => ?_)
      · rw [if_neg c5] at hf
        refine lv_iload_n hx hb dX2_free_202 rfl (lv_at hl 1 rfl) ?_
        refine lv_iconst (v := 2) hx hb dX2_free_203 (by decide) ?_
        refine lv_icmp_ne (tgt := 212) hx hb dX2_free_204 (by decide) (fun c6 => ?_) (fun c6 => ?_)
        · rw [if_neg c6] at hf
          refine lv_iload_n hx hb dX2_free_212 rfl (lv_at hl 1 rfl) ?_
          refine lv_iconst (v := 3) hx hb dX2_free_213 (by decide) ?_
          refine lv_icmp_ne (tgt := 222) hx hb dX2_free_214 (by decide) (fun c7 => ?_) (fun c7 => ?_)
          · rw [if_neg c7] at hf
            refine lv_iload hx hb dX2_free_222 (lv_at hl 6 rfl) ?_
            rw [evn_r] at hf
            have h1 := Option.some.inj hf
            subst h1
            exact mm_reti F hH hr hlocks rfl rfl dX2_free_224
          · rw [if_pos c7] at hf
            refine lv_iload hx hb dX2_free_217 (lv_at hl 5 rfl) ?_
            refine lv_goto (tgt := 224) hx hb dX2_free_219 (by decide) ?_
            rw [evn_r] at hf
            have h1 := Option.some.inj hf
            subst h1
            exact mm_reti F hH hr hlocks rfl rfl dX2_free_224
        · rw [if_pos c6] at hf
          refine lv_iload hx hb dX2_free_207 (lv_at hl 4 rfl) ?_
          refine lv_goto (tgt := 224) hx hb dX2_free_209 (by decide) ?_
          rw [evn_r] at hf
          have h1 := Option.some.inj hf
          subst h1
          exact mm_reti F hH hr hlocks rfl rfl dX2_free_224
      · rw [if_pos c5] at hf
        refine lv_iload_n hx hb dX2_free_198 rfl (lv_at hl 3 rfl) ?_
        refine lv_goto (tgt := 224) hx hb dX2_free_199 (by decide) ?_
        rw [evn_r] at hf
        have h1 := Option.some.inj hf
        subst h1
        exact mm_reti F hH hr hlocks rfl rfl dX2_free_224
    · rw [if_pos c4] at hf
      refine lv_iload_n hx hb dX2_free_189 rfl (lv_at hl 2 rfl) ?_
      refine lv_goto (tgt := 224) hx hb dX2_free_190 (by decide) ?_
      rw [evn_r] at hf
      have h1 := Option.some.inj hf
      subst h1
      exact mm_reti F hH hr hlocks rfl rfl dX2_free_224
  · rw [if_neg c3] at hf
    refine lv_iconst (v := 0) hx hb dX2_free_41 (by decide) ?_
    refine lv_istore (lv' := [(8, .int (0 : Int32)), (0, .ref h0), (1, .int x1), (2, .int x2), (3, .int x3), (4, .int x4), (5, .int x5), (6, .int x6), (7, .int x7)]) hx hb dX2_free_42 hl (by decide) rfl (fun ls hl => ?_)
    rw [evn_l] at hf
    exact IH44 x2 x3 x4 x5 x6 x7 (0 : Int32) _ _ _ hH (lv_sub hl [1, 2, 3, 4, 5, 6, 7, 8, 0] rfl) hf
set_option maxHeartbeats 4000000 in
theorem w_X2_free_133 {p : Program} {l : Launch} {e : Env} {s : State} {m : MethodId} {av : Array Value} {below : List Frame} {meth : Method} {c : Code} {G : mm_G} {rr : Int32} {n : Nat} {σ : mm_M} {h0 : Nat} {x1 : Int32} (F : mm_F p s m av c RX2 cX2_free 9 G) (hr : meth.sig.returnType = (Option.some .int)) (hlocks : meth.locks = false) (hname : meth.name = yX2_free.name) (IH28 : ∀ (x2 : Int32) (x3 : Int32) (x4 : Int32) (x5 : Int32) (x6 : Int32) (x7 : Int32) (H : Heap) (locs : List Loc) (ls : Array Slot), mm_H G s σ H locs → lv_has ls 9 [(0, .ref h0), (1, .int x1), (2, .int x2), (3, .int x3), (4, .int x4), (5, .int x5), (6, .int x6), (7, .int x7)] → itn (s_X2_free h0 x1 σ) n (.inl (x2, x3, x4, x5, x6, x7)) = some rr → W p l e rm_X2_free s m av below meth c H locs 0 0 (MQ below (mm_Qi G rr σ) av s 0 0 (mm_A G)) (F0 m 28 ls [])) (IH44 : ∀ (x2 : Int32) (x3 : Int32) (x4 : Int32) (x5 : Int32) (x6 : Int32) (x7 : Int32) (x8 : Int32) (H : Heap) (locs : List Loc) (ls : Array Slot), mm_H G s σ H locs → lv_has ls 9 [(0, .ref h0), (1, .int x1), (2, .int x2), (3, .int x3), (4, .int x4), (5, .int x5), (6, .int x6), (7, .int x7), (8, .int x8)] → itn (s_X2_free h0 x1 σ) n (.inr (x2, x3, x4, x5, x6, x7, x8)) = some rr → W p l e rm_X2_free s m av below meth c H locs 0 0 (MQ below (mm_Qi G rr σ) av s 0 0 (mm_A G)) (F0 m 44 ls []))  (x2 : Int32) (x3 : Int32) (x5 : Int32) (x6 : Int32) (x7 : Int32) (x8 : Int32) (t0 : Int32) (hf : evn (s_X2_free h0 x1 σ) n (g_X2_free_133 h0 x1 x2 x3 x5 x6 x7 x8 t0 σ) = some rr) {H : Heap} {locs : List Loc} {ls : Array Slot} (hH : mm_H G s σ H locs) (hl : lv_has ls 9 [(0, .ref h0), (1, .int x1), (2, .int x2), (3, .int x3), (5, .int x5), (6, .int x6), (7, .int x7), (8, .int x8)]) : W p l e rm_X2_free s m av below meth c H locs 0 0 (MQ below (mm_Qi G rr σ) av s 0 0 (mm_A G)) (F0 m 133 ls [.int t0]) := by
  have hx := F.1
  have hb := F.2.1
  have hml := F.2.2.1
  have hown := F.2.2.2.1
  have hts := F.2.2.2.2.1
  unfold g_X2_free_133 at hf
  refine lv_istore (lv' := [(4, .int t0), (0, .ref h0), (1, .int x1), (2, .int x2), (3, .int x3), (5, .int x5), (6, .int x6), (7, .int x7), (8, .int x8)]) hx hb dX2_free_133 hl (by decide) rfl (fun ls hl => ?_)
  refine lv_iload hx hb dX2_free_135 (lv_at hl 6 rfl) ?_
  refine lv_iload hx hb dX2_free_137 (lv_at hl 8 rfl) ?_
  refine lv_iconst (v := 4) hx hb dX2_free_139 (by decide) ?_
  refine lv_idiv hx hb dX2_free_140 (by decide) ?_
  refine lv_iadd hx hb dX2_free_141 ?_
  refine lv_istore (lv' := [(6, .int (x6 + (x8 / (4 : Int32)))), (4, .int t0), (0, .ref h0), (1, .int x1), (2, .int x2), (3, .int x3), (5, .int x5), (7, .int x7), (8, .int x8)]) hx hb dX2_free_142 hl (by decide) rfl (fun ls hl => ?_)
  refine lv_iload hx hb dX2_free_144 (lv_at hl 7 rfl) ?_
  refine lv_iload hx hb dX2_free_146 (lv_at hl 8 rfl) ?_
  refine lv_iadd hx hb dX2_free_148 ?_
  refine lv_istore (lv' := [(7, .int (x7 + x8)), (6, .int (x6 + (x8 / (4 : Int32)))), (4, .int t0), (0, .ref h0), (1, .int x1), (2, .int x2), (3, .int x3), (5, .int x5), (8, .int x8)]) hx hb dX2_free_149 hl (by decide) rfl (fun ls hl => ?_)
  refine lv_iload hx hb dX2_free_151 (lv_at hl 0 rfl) ?_
  refine lv_iload hx hb dX2_free_153 (lv_at hl 0 rfl) ?_
  refine lv_aload_n hx hb dX2_free_155 rfl (lv_at hl 3 rfl) ?_
  replace hf := evn_b1 hf
  obtain ⟨q1, e1, hf⟩ := hf
  refine mm_getA F hH mc_2 (k := 0) (by decide) (hts _ q1047) (fun _ h => h) e1 dX2_free_156 ?_
  refine lv_sipush (v := 1216) hx hb dX2_free_159 (by decide) ?_
  replace hf := evn_b1 hf
  obtain ⟨v2, e2, hf⟩ := hf
  refine mm_iald F hH e2 dX2_free_162 ?_
  refine lv_icmp_ge (tgt := 178) hx hb dX2_free_163 (by decide) (fun c3 => ?_) (fun c3 => ?_)
  · rw [if_pos c3] at hf
    refine lv_iconst (v := 0) hx hb dX2_free_178 (by decide) ?_
    refine lv_iadd hx hb dX2_free_179 ?_
    refine lv_istore (lv' := [(7, .int ((x7 + x8) + (0 : Int32))), (6, .int (x6 + (x8 / (4 : Int32)))), (4, .int t0), (0, .ref h0), (1, .int x1), (2, .int x2), (3, .int x3), (5, .int x5), (8, .int x8)]) hx hb dX2_free_180 hl (by decide) rfl (fun ls hl => ?_)
    refine lv_goto (tgt := 28) hx hb dX2_free_182 (by decide) ?_
    rw [evn_l] at hf
    exact IH28 x2 x3 t0 x5 (x6 + (x8 / (4 : Int32))) ((x7 + x8) + (0 : Int32)) _ _ _ hH (lv_sub hl [3, 4, 5, 6, 2, 7, 1, 0] rfl) hf
  · rw [if_neg c3] at hf
    refine lv_aload_n hx hb dX2_free_166 rfl (lv_at hl 3 rfl) ?_
    replace hf := evn_b1 hf
    obtain ⟨q4, e3, hf⟩ := hf
    refine mm_getA F hH mc_2 (k := 0) (by decide) (hts _ q1047) (fun _ h => h) e3 dX2_free_167 ?_
    refine lv_iconst (v := 0) hx hb dX2_free_170 (by decide) ?_
    refine lv_iload hx hb dX2_free_171 (lv_at hl 0 rfl) ?_
    refine lv_iadd hx hb dX2_free_173 ?_
    replace hf := evn_b1 hf
    obtain ⟨v5, e4, hf⟩ := hf
    refine mm_iald F hH e4 dX2_free_174 ?_
    refine lv_goto (tgt := 179) hx hb dX2_free_175 (by decide) ?_
    refine lv_iadd hx hb dX2_free_179 ?_
    refine lv_istore (lv' := [(7, .int ((x7 + x8) + v5)), (6, .int (x6 + (x8 / (4 : Int32)))), (4, .int t0), (0, .ref h0), (1, .int x1), (2, .int x2), (3, .int x3), (5, .int x5), (8, .int x8)]) hx hb dX2_free_180 hl (by decide) rfl (fun ls hl => ?_)
    refine lv_goto (tgt := 28) hx hb dX2_free_182 (by decide) ?_
    rw [evn_l] at hf
    exact IH28 x2 x3 t0 x5 (x6 + (x8 / (4 : Int32))) ((x7 + x8) + v5) _ _ _ hH (lv_sub hl [3, 4, 5, 6, 2, 7, 1, 0] rfl) hf
set_option maxHeartbeats 4000000 in
theorem w_X2_free_99 {p : Program} {l : Launch} {e : Env} {s : State} {m : MethodId} {av : Array Value} {below : List Frame} {meth : Method} {c : Code} {G : mm_G} {rr : Int32} {n : Nat} {σ : mm_M} {h0 : Nat} {x1 : Int32} (F : mm_F p s m av c RX2 cX2_free 9 G) (hr : meth.sig.returnType = (Option.some .int)) (hlocks : meth.locks = false) (hname : meth.name = yX2_free.name) (IH28 : ∀ (x2 : Int32) (x3 : Int32) (x4 : Int32) (x5 : Int32) (x6 : Int32) (x7 : Int32) (H : Heap) (locs : List Loc) (ls : Array Slot), mm_H G s σ H locs → lv_has ls 9 [(0, .ref h0), (1, .int x1), (2, .int x2), (3, .int x3), (4, .int x4), (5, .int x5), (6, .int x6), (7, .int x7)] → itn (s_X2_free h0 x1 σ) n (.inl (x2, x3, x4, x5, x6, x7)) = some rr → W p l e rm_X2_free s m av below meth c H locs 0 0 (MQ below (mm_Qi G rr σ) av s 0 0 (mm_A G)) (F0 m 28 ls [])) (IH44 : ∀ (x2 : Int32) (x3 : Int32) (x4 : Int32) (x5 : Int32) (x6 : Int32) (x7 : Int32) (x8 : Int32) (H : Heap) (locs : List Loc) (ls : Array Slot), mm_H G s σ H locs → lv_has ls 9 [(0, .ref h0), (1, .int x1), (2, .int x2), (3, .int x3), (4, .int x4), (5, .int x5), (6, .int x6), (7, .int x7), (8, .int x8)] → itn (s_X2_free h0 x1 σ) n (.inr (x2, x3, x4, x5, x6, x7, x8)) = some rr → W p l e rm_X2_free s m av below meth c H locs 0 0 (MQ below (mm_Qi G rr σ) av s 0 0 (mm_A G)) (F0 m 44 ls []))  (x2 : Int32) (x3 : Int32) (x4 : Int32) (x6 : Int32) (x7 : Int32) (x8 : Int32) (t0 : Int32) (hf : evn (s_X2_free h0 x1 σ) n (g_X2_free_99 h0 x1 x2 x3 x4 x6 x7 x8 t0 σ) = some rr) {H : Heap} {locs : List Loc} {ls : Array Slot} (hH : mm_H G s σ H locs) (hl : lv_has ls 9 [(0, .ref h0), (1, .int x1), (2, .int x2), (3, .int x3), (4, .int x4), (6, .int x6), (7, .int x7), (8, .int x8)]) : W p l e rm_X2_free s m av below meth c H locs 0 0 (MQ below (mm_Qi G rr σ) av s 0 0 (mm_A G)) (F0 m 99 ls [.int t0]) := by
  have hx := F.1
  have hb := F.2.1
  have hml := F.2.2.1
  have hown := F.2.2.2.1
  have hts := F.2.2.2.2.1
  unfold g_X2_free_99 at hf
  refine lv_istore (lv' := [(5, .int t0), (0, .ref h0), (1, .int x1), (2, .int x2), (3, .int x3), (4, .int x4), (6, .int x6), (7, .int x7), (8, .int x8)]) hx hb dX2_free_99 hl (by decide) rfl (fun ls hl => ?_)
  refine lv_iload_n hx hb dX2_free_101 rfl (lv_at hl 3 rfl) ?_
  refine lv_iload hx hb dX2_free_102 (lv_at hl 8 rfl) ?_
  refine lv_iadd hx hb dX2_free_104 ?_
  refine lv_istore_n (lv' := [(2, .int (x2 + x8)), (5, .int t0), (0, .ref h0), (1, .int x1), (3, .int x3), (4, .int x4), (6, .int x6), (7, .int x7), (8, .int x8)]) hx hb dX2_free_105 rfl hl (by decide) rfl (fun ls hl => ?_)
  refine lv_iload_n hx hb dX2_free_106 rfl (lv_at hl 4 rfl) ?_
  refine lv_iload hx hb dX2_free_107 (lv_at hl 8 rfl) ?_
  refine lv_if_le (tgt := 116) hx hb dX2_free_109 (by decide) (fun c1 => ?_) (fun c1 => ?_)
  · rw [if_pos c1] at hf
    refine lv_iconst (v := 0) hx hb dX2_free_116 (by decide) ?_
    refine lv_iadd hx hb dX2_free_117 ?_
    refine lv_istore_n (lv' := [(3, .int (x3 + (0 : Int32))), (2, .int (x2 + x8)), (5, .int t0), (0, .ref h0), (1, .int x1), (4, .int x4), (6, .int x6), (7, .int x7), (8, .int x8)]) hx hb dX2_free_118 rfl hl (by decide) rfl (fun ls hl => ?_)
    refine lv_iload hx hb dX2_free_119 (lv_at hl 8 rfl) ?_
    refine lv_iload hx hb dX2_free_121 (lv_at hl 5 rfl) ?_
    refine lv_icmp_le (tgt := 131) hx hb dX2_free_123 (by decide) (fun c2 => ?_) (fun c2 => ?_)
    · rw [if_pos c2] at hf
      refine lv_iload hx hb dX2_free_131 (lv_at hl 5 rfl) ?_
      exact w_X2_free_133 F hr hlocks hname IH28 IH44 (x2 + x8) (x3 + (0 : Int32)) t0 x6 x7 x8 x4 hf hH (lv_sub hl [3, 4, 1, 0, 2, 6, 7, 8] rfl)
    · rw [if_neg c2] at hf
      refine lv_iload hx hb dX2_free_126 (lv_at hl 8 rfl) ?_
      refine lv_goto (tgt := 133) hx hb dX2_free_128 (by decide) ?_
      exact w_X2_free_133 F hr hlocks hname IH28 IH44 (x2 + x8) (x3 + (0 : Int32)) t0 x6 x7 x8 x8 hf hH (lv_sub hl [3, 4, 1, 0, 2, 6, 7, 8] rfl)
  · rw [if_neg c1] at hf
    refine lv_iconst (v := 1) hx hb dX2_free_112 (by decide) ?_
    refine lv_goto (tgt := 117) hx hb dX2_free_113 (by decide) ?_
    refine lv_iadd hx hb dX2_free_117 ?_
    refine lv_istore_n (lv' := [(3, .int (x3 + (1 : Int32))), (2, .int (x2 + x8)), (5, .int t0), (0, .ref h0), (1, .int x1), (4, .int x4), (6, .int x6), (7, .int x7), (8, .int x8)]) hx hb dX2_free_118 rfl hl (by decide) rfl (fun ls hl => ?_)
    refine lv_iload hx hb dX2_free_119 (lv_at hl 8 rfl) ?_
    refine lv_iload hx hb dX2_free_121 (lv_at hl 5 rfl) ?_
    refine lv_icmp_le (tgt := 131) hx hb dX2_free_123 (by decide) (fun c3 => ?_) (fun c3 => ?_)
    · rw [if_pos c3] at hf
      refine lv_iload hx hb dX2_free_131 (lv_at hl 5 rfl) ?_
      exact w_X2_free_133 F hr hlocks hname IH28 IH44 (x2 + x8) (x3 + (1 : Int32)) t0 x6 x7 x8 x4 hf hH (lv_sub hl [3, 4, 1, 0, 2, 6, 7, 8] rfl)
    · rw [if_neg c3] at hf
      refine lv_iload hx hb dX2_free_126 (lv_at hl 8 rfl) ?_
      refine lv_goto (tgt := 133) hx hb dX2_free_128 (by decide) ?_
      exact w_X2_free_133 F hr hlocks hname IH28 IH44 (x2 + x8) (x3 + (1 : Int32)) t0 x6 x7 x8 x8 hf hH (lv_sub hl [3, 4, 1, 0, 2, 6, 7, 8] rfl)
set_option maxHeartbeats 4000000 in
theorem w_X2_free_44 {p : Program} {l : Launch} {e : Env} {s : State} {m : MethodId} {av : Array Value} {below : List Frame} {meth : Method} {c : Code} {G : mm_G} {rr : Int32} {n : Nat} {σ : mm_M} {h0 : Nat} {x1 : Int32} (F : mm_F p s m av c RX2 cX2_free 9 G) (hr : meth.sig.returnType = (Option.some .int)) (hlocks : meth.locks = false) (hname : meth.name = yX2_free.name) (IH28 : ∀ (x2 : Int32) (x3 : Int32) (x4 : Int32) (x5 : Int32) (x6 : Int32) (x7 : Int32) (H : Heap) (locs : List Loc) (ls : Array Slot), mm_H G s σ H locs → lv_has ls 9 [(0, .ref h0), (1, .int x1), (2, .int x2), (3, .int x3), (4, .int x4), (5, .int x5), (6, .int x6), (7, .int x7)] → itn (s_X2_free h0 x1 σ) n (.inl (x2, x3, x4, x5, x6, x7)) = some rr → W p l e rm_X2_free s m av below meth c H locs 0 0 (MQ below (mm_Qi G rr σ) av s 0 0 (mm_A G)) (F0 m 28 ls [])) (IH44 : ∀ (x2 : Int32) (x3 : Int32) (x4 : Int32) (x5 : Int32) (x6 : Int32) (x7 : Int32) (x8 : Int32) (H : Heap) (locs : List Loc) (ls : Array Slot), mm_H G s σ H locs → lv_has ls 9 [(0, .ref h0), (1, .int x1), (2, .int x2), (3, .int x3), (4, .int x4), (5, .int x5), (6, .int x6), (7, .int x7), (8, .int x8)] → itn (s_X2_free h0 x1 σ) n (.inr (x2, x3, x4, x5, x6, x7, x8)) = some rr → W p l e rm_X2_free s m av below meth c H locs 0 0 (MQ below (mm_Qi G rr σ) av s 0 0 (mm_A G)) (F0 m 44 ls []))  (x2 : Int32) (x3 : Int32) (x4 : Int32) (x5 : Int32) (x6 : Int32) (x7 : Int32) (x8 : Int32)  (hf : evn (s_X2_free h0 x1 σ) n (g_X2_free_44 h0 x1 x2 x3 x4 x5 x6 x7 x8 σ) = some rr) {H : Heap} {locs : List Loc} {ls : Array Slot} (hH : mm_H G s σ H locs) (hl : lv_has ls 9 [(0, .ref h0), (1, .int x1), (2, .int x2), (3, .int x3), (4, .int x4), (5, .int x5), (6, .int x6), (7, .int x7), (8, .int x8)]) : W p l e rm_X2_free s m av below meth c H locs 0 0 (MQ below (mm_Qi G rr σ) av s 0 0 (mm_A G)) (F0 m 44 ls []) := by
  have hx := F.1
  have hb := F.2.1
  have hml := F.2.2.1
  have hown := F.2.2.2.1
  have hts := F.2.2.2.2.1
  unfold g_X2_free_44 at hf
  refine lv_iload hx hb dX2_free_44 (lv_at hl 7 rfl) ?_
  refine lv_iload hx hb dX2_free_46 (lv_at hl 8 rfl) ?_
  refine lv_iadd hx hb dX2_free_48 ?_
  refine lv_aload_n hx hb dX2_free_49 rfl (lv_at hl 0 rfl) ?_
  replace hf := evn_b1 hf
  obtain ⟨q1, e1, hf⟩ := hf
  refine mm_getA F hH mc_2 (k := 0) (by decide) (hts _ q1047) (fun _ h => h) e1 dX2_free_50 ?_
  refine lv_sipush (v := 1216) hx hb dX2_free_53 (by decide) ?_
  replace hf := evn_b1 hf
  obtain ⟨v2, e2, hf⟩ := hf
  refine mm_iald F hH e2 dX2_free_56 ?_
  refine lv_icmp_ge (tgt := 81) hx hb dX2_free_57 (by decide) (fun c3 => ?_) (fun c3 => ?_)
  · rw [if_pos c3] at hf
    refine lv_iload hx hb dX2_free_81 (lv_at hl 8 rfl) ?_
    refine lv_if_le (tgt := 97) hx hb dX2_free_83 (by decide) (fun c4 => ?_) (fun c4 => ?_)
    · rw [if_pos c4] at hf
      refine lv_iload hx hb dX2_free_97 (lv_at hl 5 rfl) ?_
      exact w_X2_free_99 F hr hlocks hname IH28 IH44 x2 x3 x4 x6 x7 x8 x5 hf hH (lv_sub hl [0, 1, 2, 3, 4, 6, 7, 8] rfl)
    · rw [if_neg c4] at hf
      refine lv_iload hx hb dX2_free_86 (lv_at hl 5 rfl) ?_
      refine lv_iconst (v := (-1)) hx hb dX2_free_88 (by decide) ?_
      refine lv_icmp_ne (tgt := 97) hx hb dX2_free_89 (by decide) (fun c5 => ?_) (fun c5 => ?_)
      · rw [if_neg c5] at hf
        refine lv_iload hx hb dX2_free_97 (lv_at hl 5 rfl) ?_
        exact w_X2_free_99 F hr hlocks hname IH28 IH44 x2 x3 x4 x6 x7 x8 x5 hf hH (lv_sub hl [0, 1, 2, 3, 4, 6, 7, 8] rfl)
      · rw [if_pos c5] at hf
        refine lv_iload hx hb dX2_free_92 (lv_at hl 7 rfl) ?_
        refine lv_goto (tgt := 99) hx hb dX2_free_94 (by decide) ?_
        exact w_X2_free_99 F hr hlocks hname IH28 IH44 x2 x3 x4 x6 x7 x8 x7 hf hH (lv_sub hl [0, 1, 2, 3, 4, 6, 7, 8] rfl)
  · rw [if_neg c3] at hf
    refine lv_aload_n hx hb dX2_free_60 rfl (lv_at hl 0 rfl) ?_
    replace hf := evn_b1 hf
    obtain ⟨q6, e3, hf⟩ := hf
    refine mm_getA F hH mc_2 (k := 0) (by decide) (hts _ q1047) (fun _ h => h) e3 dX2_free_61 ?_
    refine lv_iconst (v := 0) hx hb dX2_free_64 (by decide) ?_
    refine lv_iload hx hb dX2_free_65 (lv_at hl 7 rfl) ?_
    refine lv_iadd hx hb dX2_free_67 ?_
    refine lv_iload hx hb dX2_free_68 (lv_at hl 8 rfl) ?_
    refine lv_iadd hx hb dX2_free_70 ?_
    replace hf := evn_b1 hf
    obtain ⟨v7, e4, hf⟩ := hf
    refine mm_iald F hH e4 dX2_free_71 ?_
    refine lv_if_ne (tgt := 81) hx hb dX2_free_72 (by decide) (fun c8 => ?_) (fun c8 => ?_)
    · rw [if_neg c8] at hf
      refine lv_iload hx hb dX2_free_81 (lv_at hl 8 rfl) ?_
      refine lv_if_le (tgt := 97) hx hb dX2_free_83 (by decide) (fun c9 => ?_) (fun c9 => ?_)
      · rw [if_pos c9] at hf
        refine lv_iload hx hb dX2_free_97 (lv_at hl 5 rfl) ?_
        exact w_X2_free_99 F hr hlocks hname IH28 IH44 x2 x3 x4 x6 x7 x8 x5 hf hH (lv_sub hl [0, 1, 2, 3, 4, 6, 7, 8] rfl)
      · rw [if_neg c9] at hf
        refine lv_iload hx hb dX2_free_86 (lv_at hl 5 rfl) ?_
        refine lv_iconst (v := (-1)) hx hb dX2_free_88 (by decide) ?_
        refine lv_icmp_ne (tgt := 97) hx hb dX2_free_89 (by decide) (fun c10 => ?_) (fun c10 => ?_)
        · rw [if_neg c10] at hf
          refine lv_iload hx hb dX2_free_97 (lv_at hl 5 rfl) ?_
          exact w_X2_free_99 F hr hlocks hname IH28 IH44 x2 x3 x4 x6 x7 x8 x5 hf hH (lv_sub hl [0, 1, 2, 3, 4, 6, 7, 8] rfl)
        · rw [if_pos c10] at hf
          refine lv_iload hx hb dX2_free_92 (lv_at hl 7 rfl) ?_
          refine lv_goto (tgt := 99) hx hb dX2_free_94 (by decide) ?_
          exact w_X2_free_99 F hr hlocks hname IH28 IH44 x2 x3 x4 x6 x7 x8 x7 hf hH (lv_sub hl [0, 1, 2, 3, 4, 6, 7, 8] rfl)
    · rw [if_pos c8] at hf
      refine lv_iinc (v := x8 + (1 : Int32)) (lv' := [(8, .int (x8 + (1 : Int32))), (0, .ref h0), (1, .int x1), (2, .int x2), (3, .int x3), (4, .int x4), (5, .int x5), (6, .int x6), (7, .int x7)]) hx hb dX2_free_75 hl (k := 8) rfl rfl (by decide) rfl (fun ls hl => ?_)
      refine lv_goto (tgt := 44) hx hb dX2_free_78 (by decide) ?_
      rw [evn_l] at hf
      exact IH44 x2 x3 x4 x5 x6 x7 (x8 + (1 : Int32)) _ _ _ hH (lv_sub hl [1, 2, 3, 4, 5, 6, 7, 8, 0] rfl) hf
set_option maxHeartbeats 4000000 in
theorem w_X2_free_0 {p : Program} {l : Launch} {e : Env} {s : State} {m : MethodId} {av : Array Value} {below : List Frame} {meth : Method} {c : Code} {G : mm_G} {rr : Int32} {n : Nat} {σ : mm_M} {h0 : Nat} {x1 : Int32} (F : mm_F p s m av c RX2 cX2_free 9 G) (hr : meth.sig.returnType = (Option.some .int)) (hlocks : meth.locks = false) (hname : meth.name = yX2_free.name) (IH28 : ∀ (x2 : Int32) (x3 : Int32) (x4 : Int32) (x5 : Int32) (x6 : Int32) (x7 : Int32) (H : Heap) (locs : List Loc) (ls : Array Slot), mm_H G s σ H locs → lv_has ls 9 [(0, .ref h0), (1, .int x1), (2, .int x2), (3, .int x3), (4, .int x4), (5, .int x5), (6, .int x6), (7, .int x7)] → itn (s_X2_free h0 x1 σ) n (.inl (x2, x3, x4, x5, x6, x7)) = some rr → W p l e rm_X2_free s m av below meth c H locs 0 0 (MQ below (mm_Qi G rr σ) av s 0 0 (mm_A G)) (F0 m 28 ls [])) (IH44 : ∀ (x2 : Int32) (x3 : Int32) (x4 : Int32) (x5 : Int32) (x6 : Int32) (x7 : Int32) (x8 : Int32) (H : Heap) (locs : List Loc) (ls : Array Slot), mm_H G s σ H locs → lv_has ls 9 [(0, .ref h0), (1, .int x1), (2, .int x2), (3, .int x3), (4, .int x4), (5, .int x5), (6, .int x6), (7, .int x7), (8, .int x8)] → itn (s_X2_free h0 x1 σ) n (.inr (x2, x3, x4, x5, x6, x7, x8)) = some rr → W p l e rm_X2_free s m av below meth c H locs 0 0 (MQ below (mm_Qi G rr σ) av s 0 0 (mm_A G)) (F0 m 44 ls []))    (hf : evn (s_X2_free h0 x1 σ) n (g_X2_free_0 h0 x1 σ) = some rr) {H : Heap} {locs : List Loc} {ls : Array Slot} (hH : mm_H G s σ H locs) (hl : lv_has ls 9 [(0, .ref h0), (1, .int x1)]) : W p l e rm_X2_free s m av below meth c H locs 0 0 (MQ below (mm_Qi G rr σ) av s 0 0 (mm_A G)) (F0 m 0 ls []) := by
  have hx := F.1
  have hb := F.2.1
  have hml := F.2.2.1
  have hown := F.2.2.2.1
  have hts := F.2.2.2.2.1
  unfold g_X2_free_0 at hf
  refine lv_iload_n hx hb dX2_free_0 rfl (lv_at hl 1 rfl) ?_
  refine lv_iconst (v := 0) hx hb dX2_free_1 (by decide) ?_
  refine lv_iconst (v := 4) hx hb dX2_free_2 (by decide) ?_
  replace hf := evn_b1 hf
  obtain ⟨v1, e1, hf⟩ := hf
  refine mm_ci (va_runS (As := [.int x1, .int (0 : Int32), .int (4 : Int32)]) (rest := []) ⟨hx, hb, hml, hown, hts⟩ (m_X2_in l G x1 (0 : Int32) (4 : Int32) σ v1 e1) (va_cwS 3 hts (lw_S q1107 q1108 q67 q1109) rfl rfl rfl (by decide +kernel) ⟨Nat.le_of_ble_eq_true rfl, Nat.le_of_ble_eq_true rfl⟩) (mm_preS F.2.2.2.2.2 hH) rfl rfl hl.1 rfl (lv_room (Nat.le_of_ble_eq_true rfl)) dX2_free_3 ⟨Nat.le_of_ble_eq_true rfl, Nat.le_of_ble_eq_true rfl⟩) hH (fun H locs hH => ?_)
  refine lv_if_ne (tgt := 12) hx hb dX2_free_6 (by decide) (fun c2 => ?_) (fun c2 => ?_)
  · rw [if_neg c2] at hf
    refine lv_iconst (v := 0) hx hb dX2_free_12 (by decide) ?_
    refine lv_istore_n (lv' := [(2, .int (0 : Int32)), (0, .ref h0), (1, .int x1)]) hx hb dX2_free_13 rfl hl (by decide) rfl (fun ls hl => ?_)
    refine lv_iconst (v := 0) hx hb dX2_free_14 (by decide) ?_
    refine lv_istore_n (lv' := [(3, .int (0 : Int32)), (2, .int (0 : Int32)), (0, .ref h0), (1, .int x1)]) hx hb dX2_free_15 rfl hl (by decide) rfl (fun ls hl => ?_)
    refine lv_iconst (v := 0) hx hb dX2_free_16 (by decide) ?_
    refine lv_istore (lv' := [(4, .int (0 : Int32)), (3, .int (0 : Int32)), (2, .int (0 : Int32)), (0, .ref h0), (1, .int x1)]) hx hb dX2_free_17 hl (by decide) rfl (fun ls hl => ?_)
    refine lv_iconst (v := (-1)) hx hb dX2_free_19 (by decide) ?_
    refine lv_istore (lv' := [(5, .int (-1 : Int32)), (4, .int (0 : Int32)), (3, .int (0 : Int32)), (2, .int (0 : Int32)), (0, .ref h0), (1, .int x1)]) hx hb dX2_free_20 hl (by decide) rfl (fun ls hl => ?_)
    refine lv_iconst (v := 0) hx hb dX2_free_22 (by decide) ?_
    refine lv_istore (lv' := [(6, .int (0 : Int32)), (5, .int (-1 : Int32)), (4, .int (0 : Int32)), (3, .int (0 : Int32)), (2, .int (0 : Int32)), (0, .ref h0), (1, .int x1)]) hx hb dX2_free_23 hl (by decide) rfl (fun ls hl => ?_)
    refine lv_iconst (v := 0) hx hb dX2_free_25 (by decide) ?_
    refine lv_istore (lv' := [(7, .int (0 : Int32)), (6, .int (0 : Int32)), (5, .int (-1 : Int32)), (4, .int (0 : Int32)), (3, .int (0 : Int32)), (2, .int (0 : Int32)), (0, .ref h0), (1, .int x1)]) hx hb dX2_free_26 hl (by decide) rfl (fun ls hl => ?_)
    rw [evn_l] at hf
    exact IH28 (0 : Int32) (0 : Int32) (0 : Int32) (-1 : Int32) (0 : Int32) (0 : Int32) _ _ _ hH (lv_sub hl [6, 7, 5, 4, 3, 2, 1, 0] rfl) hf
  · rw [if_pos c2] at hf
    refine lv_ldc (v := (-1000002)) hx hb hown (hts _ q1110) dX2_free_9 ?_
    rw [evn_r] at hf
    have h1 := Option.some.inj hf
    subst h1
    exact mm_reti F hH hr hlocks rfl rfl dX2_free_11
set_option maxHeartbeats 4000000 in
theorem l_X2_free {p : Program} {l : Launch} {e : Env} {s : State} {m : MethodId} {av : Array Value} {below : List Frame} {meth : Method} {c : Code} {G : mm_G} {rr : Int32} {σ : mm_M} {h0 : Nat} {x1 : Int32} (F : mm_F p s m av c RX2 cX2_free 9 G) (hr : meth.sig.returnType = (Option.some .int)) (hlocks : meth.locks = false) (hname : meth.name = yX2_free.name) : ∀ n : Nat, (∀ (x2 : Int32) (x3 : Int32) (x4 : Int32) (x5 : Int32) (x6 : Int32) (x7 : Int32) (H : Heap) (locs : List Loc) (ls : Array Slot), mm_H G s σ H locs → lv_has ls 9 [(0, .ref h0), (1, .int x1), (2, .int x2), (3, .int x3), (4, .int x4), (5, .int x5), (6, .int x6), (7, .int x7)] → itn (s_X2_free h0 x1 σ) n (.inl (x2, x3, x4, x5, x6, x7)) = some rr → W p l e rm_X2_free s m av below meth c H locs 0 0 (MQ below (mm_Qi G rr σ) av s 0 0 (mm_A G)) (F0 m 28 ls [])) ∧ (∀ (x2 : Int32) (x3 : Int32) (x4 : Int32) (x5 : Int32) (x6 : Int32) (x7 : Int32) (x8 : Int32) (H : Heap) (locs : List Loc) (ls : Array Slot), mm_H G s σ H locs → lv_has ls 9 [(0, .ref h0), (1, .int x1), (2, .int x2), (3, .int x3), (4, .int x4), (5, .int x5), (6, .int x6), (7, .int x7), (8, .int x8)] → itn (s_X2_free h0 x1 σ) n (.inr (x2, x3, x4, x5, x6, x7, x8)) = some rr → W p l e rm_X2_free s m av below meth c H locs 0 0 (MQ below (mm_Qi G rr σ) av s 0 0 (mm_A G)) (F0 m 44 ls [])) := by
  intro n
  induction n with
  | zero =>
    exact ⟨fun x2 x3 x4 x5 x6 x7 H locs ls hH hl hf => (by cases hf), fun x2 x3 x4 x5 x6 x7 x8 H locs ls hH hl hf => (by cases hf)⟩
  | succ n ih =>
    obtain ⟨IH28, IH44⟩ := ih
    refine ⟨?_, ?_⟩
    · intro x2 x3 x4 x5 x6 x7 H locs ls hH hl hf
      rw [itn_s] at hf
      exact w_X2_free_28 F hr hlocks hname IH28 IH44 x2 x3 x4 x5 x6 x7 hf hH hl
    · intro x2 x3 x4 x5 x6 x7 x8 H locs ls hH hl hf
      rw [itn_s] at hf
      exact w_X2_free_44 F hr hlocks hname IH28 IH44 x2 x3 x4 x5 x6 x7 x8 hf hH hl
set_option maxHeartbeats 4000000 in
theorem m_X2_free (l : Launch) (G : mm_G) (h0 : Nat) (x1 : Int32) (σ : mm_M) (rr : Int32) (hf : f_X2_free h0 x1 σ = some rr) : Met l yX2_free (ws_ yX2_free cX2_free 9 ((Option.some .int))) rm_X2_free (mm_Pc G [.ref h0, .int x1] σ) (mm_Qi G rr σ) 0 0 (mm_A G) := by
  refine mm_met (by decide) rfl rfl (by  exact Nat.le_of_ble_eq_true rfl) (fun p e s m below meth c ls F hH hr hlocks hname hl => ?_)
  have hl : lv_has ls 9 [(0, .ref h0), (1, .int x1)] := by  exact hl
  have F : mm_F p s m _ c RX2 cX2_free 9 G := F
  unfold f_X2_free at hf
  obtain ⟨n, hf⟩ := lgo_i hf
  have IH := l_X2_free (l := l) (e := e) (below := below) (rr := rr) (σ := σ) (h0 := h0) (x1 := x1) F hr hlocks hname n
  exact w_X2_free_0 F hr hlocks hname IH.1 IH.2  hf hH (lv_sub hl [0, 1] rfl)
/-! IslandHeapModel.type(I)I -/
abbrev rm_X2_type : Room := { frames := 1, cells := 0, slots := 0, locals := 22 }
set_option maxHeartbeats 4000000 in
theorem m_X2_type (l : Launch) (G : mm_G) (h0 : Nat) (x1 : Int32) (σ : mm_M) (σf : mm_M) (rr : Int32) (hf : f_X2_type h0 x1 σ = some (rr, σf)) : Met l yX2_type (ws_ yX2_type cX2_type 2 ((Option.some .int))) rm_X2_type (mm_Pc G [.ref h0, .int x1] σ) (mm_Qi G rr σf) 0 0 (mm_A G) := by
  refine mm_met (by decide) rfl rfl (by  exact Nat.le_of_ble_eq_true rfl) (fun p e s m below meth c ls F hH hr hlocks hname hl => ?_)
  have hl : lv_has ls 2 [(0, .ref h0), (1, .int x1)] := by  exact hl
  have F : mm_F p s m _ c RX2 cX2_type 2 G := F
  have hx := F.1
  have hb := F.2.1
  have hml := F.2.2.1
  have hown := F.2.2.2.1
  have hts := F.2.2.2.2.1
  unfold f_X2_type at hf
  refine lv_iload_n hx hb dX2_type_0 rfl (lv_at hl 1 rfl) ?_
  refine lv_iconst (v := 0) hx hb dX2_type_1 (by decide) ?_
  refine lv_bipush (v := 127) hx hb dX2_type_2 (by decide) ?_
  replace hf := b1_i hf
  obtain ⟨v1, e1, hf⟩ := hf
  refine mm_ci (va_runS (As := [.int x1, .int (0 : Int32), .int (127 : Int32)]) (rest := []) ⟨hx, hb, hml, hown, hts⟩ (m_X2_in l G x1 (0 : Int32) (127 : Int32) σ v1 e1) (va_cwS 3 hts (lw_S q1107 q1108 q67 q1109) rfl rfl rfl (by decide +kernel) ⟨Nat.le_of_ble_eq_true rfl, Nat.le_of_ble_eq_true rfl⟩) (mm_preS F.2.2.2.2.2 hH) rfl rfl hl.1 rfl (lv_room (Nat.le_of_ble_eq_true rfl)) dX2_type_4 ⟨Nat.le_of_ble_eq_true rfl, Nat.le_of_ble_eq_true rfl⟩) hH (fun H locs hH => ?_)
  refine lv_if_ne (tgt := 13) hx hb dX2_type_7 (by decide) (fun c2 => ?_) (fun c2 => ?_)
  · rw [if_neg c2] at hf
    refine lv_aload_n hx hb dX2_type_13 rfl (lv_at hl 0 rfl) ?_
    replace hf := b1_i hf
    obtain ⟨v3, e2, hf⟩ := hf
    refine mm_getI F hH mc_2 (k := 5) (by decide) (hts _ q1052) (fun _ h => h) e2 dX2_type_14 ?_
    refine lv_bipush (v := 80) hx hb dX2_type_17 (by decide) ?_
    refine lv_icmp_ne (tgt := 25) hx hb dX2_type_19 (by decide) (fun c4 => ?_) (fun c4 => ?_)
    · rw [if_neg c4] at hf
      refine lv_aload_n hx hb dX2_type_25 rfl (lv_at hl 0 rfl) ?_
      replace hf := b1_i hf
      obtain ⟨q5, e3, hf⟩ := hf
      refine mm_getA F hH mc_2 (k := 4) (by decide) (hts _ q1051) (fun _ h => h) e3 dX2_type_26 ?_
      refine lv_aload_n hx hb dX2_type_29 rfl (lv_at hl 0 rfl) ?_
      replace hf := b1_i hf
      obtain ⟨v6, e4, hf⟩ := hf
      refine mm_getI F hH mc_2 (k := 5) (by decide) (hts _ q1052) (fun _ h => h) e4 dX2_type_30 ?_
      refine lv_iload_n hx hb dX2_type_33 rfl (lv_at hl 1 rfl) ?_
      replace hf := b1_i hf
      obtain ⟨σ7, e5, hf⟩ := hf
      refine mm_iast F hH e5 dX2_type_34 (fun H locs hH => ?_)
      refine lv_aload_n hx hb dX2_type_35 rfl (lv_at hl 0 rfl) ?_
      refine lv_dup hx hb dX2_type_36 rfl ?_
      replace hf := b1_i hf
      obtain ⟨v8, e6, hf⟩ := hf
      refine mm_getI F hH mc_2 (k := 5) (by decide) (hts _ q1052) (fun _ h => h) e6 dX2_type_37 ?_
      refine lv_iconst (v := 1) hx hb dX2_type_40 (by decide) ?_
      refine lv_iadd hx hb dX2_type_41 ?_
      replace hf := b1_i hf
      obtain ⟨σ9, e7, hf⟩ := hf
      refine mm_put F hH mc_2 (k := 5) (v := vI (v8 + (1 : Int32))) (by decide) (hts _ q1052) (fun _ h => h) rfl rfl rfl e7 dX2_type_42 (fun H locs hH => ?_)
      refine lv_aload_n hx hb dX2_type_45 rfl (lv_at hl 0 rfl) ?_
      replace hf := b1_i hf
      obtain ⟨v10, e8, hf⟩ := hf
      refine mm_getI F hH mc_2 (k := 5) (by decide) (hts _ q1052) (fun _ h => h) e8 dX2_type_46 ?_
      obtain ⟨h1, h2⟩ := Prod.mk.inj (Option.some.inj hf)
      subst h1
      subst h2
      exact mm_reti F hH hr hlocks rfl rfl dX2_type_49
    · rw [if_pos c4] at hf
      refine lv_ldc (v := (-1000004)) hx hb hown (hts _ q1119) dX2_type_22 ?_
      obtain ⟨h1, h2⟩ := Prod.mk.inj (Option.some.inj hf)
      subst h1
      subst h2
      exact mm_reti F hH hr hlocks rfl rfl dX2_type_24
  · rw [if_pos c2] at hf
    refine lv_ldc (v := (-1000002)) hx hb hown (hts _ q1110) dX2_type_10 ?_
    obtain ⟨h1, h2⟩ := Prod.mk.inj (Option.some.inj hf)
    subst h1
    subst h2
    exact mm_reti F hH hr hlocks rfl rfl dX2_type_12
/-! IslandHeapModel.clearText()I -/
abbrev rm_X2_clearText : Room := { frames := 0, cells := 0, slots := 0, locals := 0 }
set_option maxHeartbeats 4000000 in
theorem m_X2_clearText (l : Launch) (G : mm_G) (h0 : Nat) (σ : mm_M) (σf : mm_M) (rr : Int32) (hf : f_X2_clearText h0 σ = some (rr, σf)) : Met l yX2_clearText (ws_ yX2_clearText cX2_clearText 2 ((Option.some .int))) rm_X2_clearText (mm_Pc G [.ref h0] σ) (mm_Qi G rr σf) 0 0 (mm_A G) := by
  refine mm_met (by decide) rfl rfl (by  exact Nat.le_of_ble_eq_true rfl) (fun p e s m below meth c ls F hH hr hlocks hname hl => ?_)
  have hl : lv_has ls 2 [(0, .ref h0)] := by  exact hl
  have F : mm_F p s m _ c RX2 cX2_clearText 2 G := F
  have hx := F.1
  have hb := F.2.1
  have hml := F.2.2.1
  have hown := F.2.2.2.1
  have hts := F.2.2.2.2.1
  unfold f_X2_clearText at hf
  refine lv_aload_n hx hb dX2_clearText_0 rfl (lv_at hl 0 rfl) ?_
  replace hf := b1_i hf
  obtain ⟨v1, e1, hf⟩ := hf
  refine mm_getI F hH mc_2 (k := 5) (by decide) (hts _ q1052) (fun _ h => h) e1 dX2_clearText_1 ?_
  refine lv_istore_n (lv' := [(1, .int v1), (0, .ref h0)]) hx hb dX2_clearText_4 rfl hl (by decide) rfl (fun ls hl => ?_)
  refine lv_aload_n hx hb dX2_clearText_5 rfl (lv_at hl 1 rfl) ?_
  refine lv_iconst (v := 0) hx hb dX2_clearText_6 (by decide) ?_
  replace hf := b1_i hf
  obtain ⟨σ2, e2, hf⟩ := hf
  refine mm_put F hH mc_2 (k := 5) (v := vI (0 : Int32)) (by decide) (hts _ q1052) (fun _ h => h) rfl rfl rfl e2 dX2_clearText_7 (fun H locs hH => ?_)
  refine lv_iload_n hx hb dX2_clearText_10 rfl (lv_at hl 0 rfl) ?_
  obtain ⟨h1, h2⟩ := Prod.mk.inj (Option.some.inj hf)
  subst h1
  subst h2
  exact mm_reti F hH hr hlocks rfl rfl dX2_clearText_11
/-! IslandHeapModel.next()I -/
abbrev rm_X2_next_2 : Room := { frames := 0, cells := 0, slots := 0, locals := 0 }
set_option maxHeartbeats 4000000 in
theorem m_X2_next_2 (l : Launch) (G : mm_G) (h0 : Nat) (σ : mm_M) (rr : Int32) (hf : f_X2_next_2 h0 σ = some rr) : Met l yX2_next_2 (ws_ yX2_next_2 cX2_next_2 1 ((Option.some .int))) rm_X2_next_2 (mm_Pc G [.ref h0] σ) (mm_Qi G rr σ) 0 0 (mm_A G) := by
  refine mm_met (by decide) rfl rfl (by  exact Nat.le_of_ble_eq_true rfl) (fun p e s m below meth c ls F hH hr hlocks hname hl => ?_)
  have hl : lv_has ls 1 [(0, .ref h0)] := by  exact hl
  have F : mm_F p s m _ c RX2 cX2_next_2 1 G := F
  have hx := F.1
  have hb := F.2.1
  have hml := F.2.2.1
  have hown := F.2.2.2.1
  have hts := F.2.2.2.2.1
  unfold f_X2_next_2 at hf
  refine lv_aload_n hx hb dX2_next_2_0 rfl (lv_at hl 0 rfl) ?_
  replace hf := b1_i hf
  obtain ⟨v1, e1, hf⟩ := hf
  refine mm_getI F hH mc_2 (k := 15) (by decide) (hts _ q1062) (fun _ h => h) e1 dX2_next_2_1 ?_
  refine lv_aload_n hx hb dX2_next_2_4 rfl (lv_at hl 0 rfl) ?_
  replace hf := b1_i hf
  obtain ⟨v2, e2, hf⟩ := hf
  refine mm_getI F hH mc_2 (k := 5) (by decide) (hts _ q1052) (fun _ h => h) e2 dX2_next_2_5 ?_
  refine lv_icmp_ge (tgt := 23) hx hb dX2_next_2_8 (by decide) (fun c3 => ?_) (fun c3 => ?_)
  · rw [if_pos c3] at hf
    refine lv_iconst (v := (-1)) hx hb dX2_next_2_23 (by decide) ?_
    have h1 := Option.some.inj hf
    subst h1
    exact mm_reti F hH hr hlocks rfl rfl dX2_next_2_24
  · rw [if_neg c3] at hf
    refine lv_aload_n hx hb dX2_next_2_11 rfl (lv_at hl 0 rfl) ?_
    replace hf := b1_i hf
    obtain ⟨q4, e3, hf⟩ := hf
    refine mm_getA F hH mc_2 (k := 4) (by decide) (hts _ q1051) (fun _ h => h) e3 dX2_next_2_12 ?_
    refine lv_aload_n hx hb dX2_next_2_15 rfl (lv_at hl 0 rfl) ?_
    replace hf := b1_i hf
    obtain ⟨v5, e4, hf⟩ := hf
    refine mm_getI F hH mc_2 (k := 15) (by decide) (hts _ q1062) (fun _ h => h) e4 dX2_next_2_16 ?_
    replace hf := b1_i hf
    obtain ⟨v6, e5, hf⟩ := hf
    refine mm_iald F hH e5 dX2_next_2_19 ?_
    refine lv_goto (tgt := 24) hx hb dX2_next_2_20 (by decide) ?_
    have h1 := Option.some.inj hf
    subst h1
    exact mm_reti F hH hr hlocks rfl rfl dX2_next_2_24
/-! IslandHeapModel.blanks()V -/
abbrev rm_X2_blanks : Room := { frames := 1, cells := 0, slots := 0, locals := 20 }
set_option maxHeartbeats 4000000 in
theorem w_X2_blanks_0 {p : Program} {l : Launch} {e : Env} {s : State} {m : MethodId} {av : Array Value} {below : List Frame} {meth : Method} {c : Code} {G : mm_G} {σf : mm_M} {n : Nat} {h0 : Nat} (F : mm_F p s m av c RX2 cX2_blanks 1 G) (hr : meth.sig.returnType = (Option.none : Option Jvm.ClassFile.FieldType)) (hlocks : meth.locks = false) (hname : meth.name = yX2_blanks.name) (IH0 : ∀  (σ : mm_M) (H : Heap) (locs : List Loc) (ls : Array Slot), mm_H G s σ H locs → lv_has ls 1 [(0, .ref h0)] → itn (s_X2_blanks h0) n σ = some σf → W p l e rm_X2_blanks s m av below meth c H locs 0 0 (MQ below (mm_Qv G σf) av s 0 0 (mm_A G)) (F0 m 0 ls []))    (σ : mm_M) (hf : evn (s_X2_blanks h0) n (g_X2_blanks_0 h0 σ) = some σf) {H : Heap} {locs : List Loc} {ls : Array Slot} (hH : mm_H G s σ H locs) (hl : lv_has ls 1 [(0, .ref h0)]) : W p l e rm_X2_blanks s m av below meth c H locs 0 0 (MQ below (mm_Qv G σf) av s 0 0 (mm_A G)) (F0 m 0 ls []) := by
  have hx := F.1
  have hb := F.2.1
  have hml := F.2.2.1
  have hown := F.2.2.2.1
  have hts := F.2.2.2.2.1
  unfold g_X2_blanks_0 at hf
  refine lv_aload_n hx hb dX2_blanks_0 rfl (lv_at hl 0 rfl) ?_
  replace hf := evn_b1 hf
  obtain ⟨u, e1, hf⟩ := hf
  obtain ⟨fs, ek⟩ := ck_i e1
  replace hf := evn_b1 hf
  obtain ⟨v1, e2, hf⟩ := hf
  refine mm_ci (va_runV (As := []) (rest := []) ⟨hx, hb, hml, hown, hts⟩ (m_X2_next_2 l G h0 σ v1 e2) (cwV 0 hts (lw_V q1279 q1281 qs52 q67 q1282) rfl rfl rfl (by decide +kernel) ⟨Nat.le_of_ble_eq_true rfl, Nat.le_of_ble_eq_true rfl⟩) (mm_preV F.2.2.2.2.2 hH (ci := 2) rfl ek) rfl rfl hl.1 rfl (lv_room (Nat.le_of_ble_eq_true rfl)) dX2_blanks_1 ⟨Nat.le_of_ble_eq_true rfl, Nat.le_of_ble_eq_true rfl⟩) hH (fun H locs hH => ?_)
  refine lv_bipush (v := 32) hx hb dX2_blanks_4 (by decide) ?_
  refine lv_icmp_ne (tgt := 22) hx hb dX2_blanks_6 (by decide) (fun c2 => ?_) (fun c2 => ?_)
  · rw [if_neg c2] at hf
    rw [evn_r] at hf
    have h1 := Option.some.inj hf
    subst h1
    exact mm_retv F hH hr hlocks dX2_blanks_22
  · rw [if_pos c2] at hf
    refine lv_aload_n hx hb dX2_blanks_9 rfl (lv_at hl 0 rfl) ?_
    refine lv_dup hx hb dX2_blanks_10 rfl ?_
    replace hf := evn_b1 hf
    obtain ⟨v3, e3, hf⟩ := hf
    refine mm_getI F hH mc_2 (k := 15) (by decide) (hts _ q1062) (fun _ h => h) e3 dX2_blanks_11 ?_
    refine lv_iconst (v := 1) hx hb dX2_blanks_14 (by decide) ?_
    refine lv_iadd hx hb dX2_blanks_15 ?_
    replace hf := evn_b1 hf
    obtain ⟨σ4, e4, hf⟩ := hf
    refine mm_put F hH mc_2 (k := 15) (v := vI (v3 + (1 : Int32))) (by decide) (hts _ q1062) (fun _ h => h) rfl rfl rfl e4 dX2_blanks_16 (fun H locs hH => ?_)
    refine lv_goto (tgt := 0) hx hb dX2_blanks_19 (by decide) ?_
    rw [evn_l] at hf
    exact IH0  σ4 _ _ _ hH (lv_sub hl [0] rfl) hf
set_option maxHeartbeats 4000000 in
theorem l_X2_blanks {p : Program} {l : Launch} {e : Env} {s : State} {m : MethodId} {av : Array Value} {below : List Frame} {meth : Method} {c : Code} {G : mm_G} {σf : mm_M} {h0 : Nat} (F : mm_F p s m av c RX2 cX2_blanks 1 G) (hr : meth.sig.returnType = (Option.none : Option Jvm.ClassFile.FieldType)) (hlocks : meth.locks = false) (hname : meth.name = yX2_blanks.name) : ∀ n : Nat, (∀  (σ : mm_M) (H : Heap) (locs : List Loc) (ls : Array Slot), mm_H G s σ H locs → lv_has ls 1 [(0, .ref h0)] → itn (s_X2_blanks h0) n σ = some σf → W p l e rm_X2_blanks s m av below meth c H locs 0 0 (MQ below (mm_Qv G σf) av s 0 0 (mm_A G)) (F0 m 0 ls [])) := by
  intro n
  induction n with
  | zero =>
    exact fun σ H locs ls hH hl hf => by cases hf
  | succ n ih =>
    have IH0 := ih
    intro σ H locs ls hH hl hf
    rw [itn_s] at hf
    exact w_X2_blanks_0 F hr hlocks hname IH0 σ hf hH hl
set_option maxHeartbeats 4000000 in
theorem m_X2_blanks (l : Launch) (G : mm_G) (h0 : Nat) (σ : mm_M) (σf : mm_M) (hf : f_X2_blanks h0 σ = some σf) : Met l yX2_blanks (ws_ yX2_blanks cX2_blanks 1 ((Option.none : Option Jvm.ClassFile.FieldType))) rm_X2_blanks (mm_Pc G [.ref h0] σ) (mm_Qv G σf) 0 0 (mm_A G) := by
  refine mm_met (by decide) rfl rfl (by  exact Nat.le_of_ble_eq_true rfl) (fun p e s m below meth c ls F hH hr hlocks hname hl => ?_)
  have hl : lv_has ls 1 [(0, .ref h0)] := by  exact hl
  have F : mm_F p s m _ c RX2 cX2_blanks 1 G := F
  unfold f_X2_blanks at hf
  obtain ⟨n, hf⟩ := lgo_i hf
  have IH := l_X2_blanks (l := l) (e := e) (below := below) (σf := σf) (h0 := h0) F hr hlocks hname n
  exact IH  σ _ _ _ hH (lv_sub hl [0] rfl) hf
/-! IslandHeapModel.fails()V -/
abbrev rm_X2_fails : Room := { frames := 0, cells := 0, slots := 0, locals := 0 }
set_option maxHeartbeats 4000000 in
theorem m_X2_fails (l : Launch) (G : mm_G) (h0 : Nat) (σ : mm_M) (σf : mm_M) (hf : f_X2_fails h0 σ = some σf) : Met l yX2_fails (ws_ yX2_fails cX2_fails 1 ((Option.none : Option Jvm.ClassFile.FieldType))) rm_X2_fails (mm_Pc G [.ref h0] σ) (mm_Qv G σf) 0 0 (mm_A G) := by
  refine mm_met (by decide) rfl rfl (by  exact Nat.le_of_ble_eq_true rfl) (fun p e s m below meth c ls F hH hr hlocks hname hl => ?_)
  have hl : lv_has ls 1 [(0, .ref h0)] := by  exact hl
  have F : mm_F p s m _ c RX2 cX2_fails 1 G := F
  have hx := F.1
  have hb := F.2.1
  have hml := F.2.2.1
  have hown := F.2.2.2.1
  have hts := F.2.2.2.2.1
  unfold f_X2_fails at hf
  refine lv_aload_n hx hb dX2_fails_0 rfl (lv_at hl 0 rfl) ?_
  refine lv_aload_n hx hb dX2_fails_1 rfl (lv_at hl 0 rfl) ?_
  replace hf := b1_i hf
  obtain ⟨v1, e1, hf⟩ := hf
  refine mm_getI F hH mc_2 (k := 16) (by decide) (hts _ q1063) (fun _ h => h) e1 dX2_fails_2 ?_
  refine lv_iconst (v := (-1)) hx hb dX2_fails_5 (by decide) ?_
  refine lv_icmp_ne (tgt := 16) hx hb dX2_fails_6 (by decide) (fun c2 => ?_) (fun c2 => ?_)
  · rw [if_neg c2] at hf
    refine lv_aload_n hx hb dX2_fails_16 rfl (lv_at hl 0 rfl) ?_
    replace hf := b1_i hf
    obtain ⟨v3, e2, hf⟩ := hf
    refine mm_getI F hH mc_2 (k := 16) (by decide) (hts _ q1063) (fun _ h => h) e2 dX2_fails_17 ?_
    replace hf := b1_i hf
    obtain ⟨σ4, e3, hf⟩ := hf
    refine mm_put F hH mc_2 (k := 16) (v := vI v3) (by decide) (hts _ q1063) (fun _ h => h) rfl rfl rfl e3 dX2_fails_20 (fun H locs hH => ?_)
    have h1 := Option.some.inj hf
    subst h1
    exact mm_retv F hH hr hlocks dX2_fails_23
  · rw [if_pos c2] at hf
    refine lv_aload_n hx hb dX2_fails_9 rfl (lv_at hl 0 rfl) ?_
    replace hf := b1_i hf
    obtain ⟨v5, e4, hf⟩ := hf
    refine mm_getI F hH mc_2 (k := 15) (by decide) (hts _ q1062) (fun _ h => h) e4 dX2_fails_10 ?_
    refine lv_goto (tgt := 20) hx hb dX2_fails_13 (by decide) ?_
    replace hf := b1_i hf
    obtain ⟨σ6, e5, hf⟩ := hf
    refine mm_put F hH mc_2 (k := 16) (v := vI v5) (by decide) (hts _ q1063) (fun _ h => h) rfl rfl rfl e5 dX2_fails_20 (fun H locs hH => ?_)
    have h1 := Option.some.inj hf
    subst h1
    exact mm_retv F hH hr hlocks dX2_fails_23
/-! IslandHeapModel.isDigit()Z -/
abbrev rm_X2_isDigit : Room := { frames := 1, cells := 0, slots := 0, locals := 22 }
set_option maxHeartbeats 4000000 in
theorem m_X2_isDigit (l : Launch) (G : mm_G) (h0 : Nat) (σ : mm_M) (rr : Int32) (hf : f_X2_isDigit h0 σ = some rr) : Met l yX2_isDigit (ws_ yX2_isDigit cX2_isDigit 1 ((Option.some .boolean))) rm_X2_isDigit (mm_Pc G [.ref h0] σ) (mm_Qi G rr σ) 0 0 (mm_A G) := by
  refine mm_met (by decide) rfl rfl (by  exact Nat.le_of_ble_eq_true rfl) (fun p e s m below meth c ls F hH hr hlocks hname hl => ?_)
  have hl : lv_has ls 1 [(0, .ref h0)] := by  exact hl
  have F : mm_F p s m _ c RX2 cX2_isDigit 1 G := F
  have hx := F.1
  have hb := F.2.1
  have hml := F.2.2.1
  have hown := F.2.2.2.1
  have hts := F.2.2.2.2.1
  unfold f_X2_isDigit at hf
  refine lv_aload_n hx hb dX2_isDigit_0 rfl (lv_at hl 0 rfl) ?_
  replace hf := b1_i hf
  obtain ⟨u, e1, hf⟩ := hf
  obtain ⟨fs, ek⟩ := ck_i e1
  replace hf := b1_i hf
  obtain ⟨v1, e2, hf⟩ := hf
  refine mm_ci (va_runV (As := []) (rest := []) ⟨hx, hb, hml, hown, hts⟩ (m_X2_next_2 l G h0 σ v1 e2) (cwV 0 hts (lw_V q1279 q1281 qs52 q67 q1282) rfl rfl rfl (by decide +kernel) ⟨Nat.le_of_ble_eq_true rfl, Nat.le_of_ble_eq_true rfl⟩) (mm_preV F.2.2.2.2.2 hH (ci := 2) rfl ek) rfl rfl hl.1 rfl (lv_room (Nat.le_of_ble_eq_true rfl)) dX2_isDigit_1 ⟨Nat.le_of_ble_eq_true rfl, Nat.le_of_ble_eq_true rfl⟩) hH (fun H locs hH => ?_)
  refine lv_bipush (v := 48) hx hb dX2_isDigit_4 (by decide) ?_
  refine lv_bipush (v := 57) hx hb dX2_isDigit_6 (by decide) ?_
  replace hf := b1_i hf
  obtain ⟨v2, e3, hf⟩ := hf
  refine mm_ci (va_runS (As := [.int v1, .int (48 : Int32), .int (57 : Int32)]) (rest := []) ⟨hx, hb, hml, hown, hts⟩ (m_X2_in l G v1 (48 : Int32) (57 : Int32) σ v2 e3) (va_cwS 3 hts (lw_S q1107 q1108 q67 q1109) rfl rfl rfl (by decide +kernel) ⟨Nat.le_of_ble_eq_true rfl, Nat.le_of_ble_eq_true rfl⟩) (mm_preS F.2.2.2.2.2 hH) rfl rfl hl.1 rfl (lv_room (Nat.le_of_ble_eq_true rfl)) dX2_isDigit_8 ⟨Nat.le_of_ble_eq_true rfl, Nat.le_of_ble_eq_true rfl⟩) hH (fun H locs hH => ?_)
  replace hf := b1_i hf
  obtain ⟨u, e4, hf⟩ := hf
  have hz := grd_i e4
  have h1 := Option.some.inj hf
  subst h1
  exact mm_reti F hH hr hlocks (by rcases hz with h | h <;> rw [h] <;> rfl) rfl dX2_isDigit_11
/-! IslandHeapModel.digit()I -/
abbrev rm_X2_digit : Room := { frames := 2, cells := 0, slots := 0, locals := 42 }
set_option maxHeartbeats 4000000 in
theorem m_X2_digit (l : Launch) (G : mm_G) (h0 : Nat) (σ : mm_M) (σf : mm_M) (rr : Int32) (hf : f_X2_digit h0 σ = some (rr, σf)) : Met l yX2_digit (ws_ yX2_digit cX2_digit 2 ((Option.some .int))) rm_X2_digit (mm_Pc G [.ref h0] σ) (mm_Qi G rr σf) 0 0 (mm_A G) := by
  refine mm_met (by decide) rfl rfl (by  exact Nat.le_of_ble_eq_true rfl) (fun p e s m below meth c ls F hH hr hlocks hname hl => ?_)
  have hl : lv_has ls 2 [(0, .ref h0)] := by  exact hl
  have F : mm_F p s m _ c RX2 cX2_digit 2 G := F
  have hx := F.1
  have hb := F.2.1
  have hml := F.2.2.1
  have hown := F.2.2.2.1
  have hts := F.2.2.2.2.1
  unfold f_X2_digit at hf
  refine lv_aload_n hx hb dX2_digit_0 rfl (lv_at hl 0 rfl) ?_
  replace hf := b1_i hf
  obtain ⟨u, e1, hf⟩ := hf
  obtain ⟨fs, ek⟩ := ck_i e1
  replace hf := b1_i hf
  obtain ⟨v1, e2, hf⟩ := hf
  refine mm_ci (va_runV (As := []) (rest := []) ⟨hx, hb, hml, hown, hts⟩ (m_X2_next_2 l G h0 σ v1 e2) (cwV 0 hts (lw_V q1279 q1281 qs52 q67 q1282) rfl rfl rfl (by decide +kernel) ⟨Nat.le_of_ble_eq_true rfl, Nat.le_of_ble_eq_true rfl⟩) (mm_preV F.2.2.2.2.2 hH (ci := 2) rfl ek) rfl rfl hl.1 rfl (lv_room (Nat.le_of_ble_eq_true rfl)) dX2_digit_1 ⟨Nat.le_of_ble_eq_true rfl, Nat.le_of_ble_eq_true rfl⟩) hH (fun H locs hH => ?_)
  refine lv_bipush (v := 48) hx hb dX2_digit_4 (by decide) ?_
  refine lv_isub hx hb dX2_digit_6 ?_
  refine lv_istore_n (lv' := [(1, .int (v1 - (48 : Int32))), (0, .ref h0)]) hx hb dX2_digit_7 rfl hl (by decide) rfl (fun ls hl => ?_)
  refine lv_aload_n hx hb dX2_digit_8 rfl (lv_at hl 1 rfl) ?_
  replace hf := b1_i hf
  obtain ⟨v2, e3, hf⟩ := hf
  refine mm_getI F hH mc_2 (k := 16) (by decide) (hts _ q1063) (fun _ h => h) e3 dX2_digit_9 ?_
  refine lv_iconst (v := (-1)) hx hb dX2_digit_12 (by decide) ?_
  refine lv_icmp_ne (tgt := 23) hx hb dX2_digit_13 (by decide) (fun c3 => ?_) (fun c3 => ?_)
  · rw [if_neg c3] at hf
    refine lv_aload_n hx hb dX2_digit_23 rfl (lv_at hl 1 rfl) ?_
    replace hf := b1_i hf
    obtain ⟨u, e4, hf⟩ := hf
    obtain ⟨fs, ek⟩ := ck_i e4
    replace hf := b1_i hf
    obtain ⟨σ4, e5, hf⟩ := hf
    refine mm_cv (va_runV (As := []) (rest := []) ⟨hx, hb, hml, hown, hts⟩ (m_X2_fails l G h0 σ σ4 e5) (cwV 0 hts (lw_V q1287 q1289 qs54 q67 q1290) rfl rfl rfl (by decide +kernel) ⟨Nat.le_of_ble_eq_true rfl, Nat.le_of_ble_eq_true rfl⟩) (mm_preV F.2.2.2.2.2 hH (ci := 2) rfl ek) rfl rfl hl.1 rfl (lv_room (Nat.le_of_ble_eq_true rfl)) dX2_digit_24 ⟨Nat.le_of_ble_eq_true rfl, Nat.le_of_ble_eq_true rfl⟩) hH (fun H locs hH => ?_)
    refine lv_iconst (v := 0) hx hb dX2_digit_27 (by decide) ?_
    obtain ⟨h1, h2⟩ := Prod.mk.inj (Option.some.inj hf)
    subst h1
    subst h2
    exact mm_reti F hH hr hlocks rfl rfl dX2_digit_28
  · rw [if_pos c3] at hf
    refine lv_aload_n hx hb dX2_digit_16 rfl (lv_at hl 1 rfl) ?_
    replace hf := b1_i hf
    obtain ⟨u, e6, hf⟩ := hf
    obtain ⟨fs, ek⟩ := ck_i e6
    replace hf := b1_i hf
    obtain ⟨v5, e7, hf⟩ := hf
    refine mm_ci (va_runV (As := []) (rest := []) ⟨hx, hb, hml, hown, hts⟩ (m_X2_isDigit l G h0 σ v5 e7) (cwV 0 hts (lw_V q1295 q1297 qs56 q67 q1298) rfl rfl rfl (by decide +kernel) ⟨Nat.le_of_ble_eq_true rfl, Nat.le_of_ble_eq_true rfl⟩) (mm_preV F.2.2.2.2.2 hH (ci := 2) rfl ek) rfl rfl hl.1 rfl (lv_room (Nat.le_of_ble_eq_true rfl)) dX2_digit_17 ⟨Nat.le_of_ble_eq_true rfl, Nat.le_of_ble_eq_true rfl⟩) hH (fun H locs hH => ?_)
    refine lv_if_ne (tgt := 29) hx hb dX2_digit_20 (by decide) (fun c6 => ?_) (fun c6 => ?_)
    · rw [if_neg c6] at hf
      refine lv_aload_n hx hb dX2_digit_29 rfl (lv_at hl 1 rfl) ?_
      refine lv_dup hx hb dX2_digit_30 rfl ?_
      replace hf := b1_i hf
      obtain ⟨v7, e8, hf⟩ := hf
      refine mm_getI F hH mc_2 (k := 15) (by decide) (hts _ q1062) (fun _ h => h) e8 dX2_digit_31 ?_
      refine lv_iconst (v := 1) hx hb dX2_digit_34 (by decide) ?_
      refine lv_iadd hx hb dX2_digit_35 ?_
      replace hf := b1_i hf
      obtain ⟨σ8, e9, hf⟩ := hf
      refine mm_put F hH mc_2 (k := 15) (v := vI (v7 + (1 : Int32))) (by decide) (hts _ q1062) (fun _ h => h) rfl rfl rfl e9 dX2_digit_36 (fun H locs hH => ?_)
      refine lv_aload_n hx hb dX2_digit_39 rfl (lv_at hl 1 rfl) ?_
      replace hf := b1_i hf
      obtain ⟨u, e10, hf⟩ := hf
      obtain ⟨fs, ek⟩ := ck_i e10
      replace hf := b1_i hf
      obtain ⟨σ9, e11, hf⟩ := hf
      refine mm_cv (va_runV (As := []) (rest := []) ⟨hx, hb, hml, hown, hts⟩ (m_X2_blanks l G h0 σ8 σ9 e11) (cwV 0 hts (lw_V q1275 q1277 qs51 q67 q1278) rfl rfl rfl (by decide +kernel) ⟨Nat.le_of_ble_eq_true rfl, Nat.le_of_ble_eq_true rfl⟩) (mm_preV F.2.2.2.2.2 hH (ci := 2) rfl ek) rfl rfl hl.1 rfl (lv_room (Nat.le_of_ble_eq_true rfl)) dX2_digit_40 ⟨Nat.le_of_ble_eq_true rfl, Nat.le_of_ble_eq_true rfl⟩) hH (fun H locs hH => ?_)
      refine lv_iload_n hx hb dX2_digit_43 rfl (lv_at hl 0 rfl) ?_
      obtain ⟨h1, h2⟩ := Prod.mk.inj (Option.some.inj hf)
      subst h1
      subst h2
      exact mm_reti F hH hr hlocks rfl rfl dX2_digit_44
    · rw [if_pos c6] at hf
      refine lv_aload_n hx hb dX2_digit_23 rfl (lv_at hl 1 rfl) ?_
      replace hf := b1_i hf
      obtain ⟨u, e12, hf⟩ := hf
      obtain ⟨fs, ek⟩ := ck_i e12
      replace hf := b1_i hf
      obtain ⟨σ10, e13, hf⟩ := hf
      refine mm_cv (va_runV (As := []) (rest := []) ⟨hx, hb, hml, hown, hts⟩ (m_X2_fails l G h0 σ σ10 e13) (cwV 0 hts (lw_V q1287 q1289 qs54 q67 q1290) rfl rfl rfl (by decide +kernel) ⟨Nat.le_of_ble_eq_true rfl, Nat.le_of_ble_eq_true rfl⟩) (mm_preV F.2.2.2.2.2 hH (ci := 2) rfl ek) rfl rfl hl.1 rfl (lv_room (Nat.le_of_ble_eq_true rfl)) dX2_digit_24 ⟨Nat.le_of_ble_eq_true rfl, Nat.le_of_ble_eq_true rfl⟩) hH (fun H locs hH => ?_)
      refine lv_iconst (v := 0) hx hb dX2_digit_27 (by decide) ?_
      obtain ⟨h1, h2⟩ := Prod.mk.inj (Option.some.inj hf)
      subst h1
      subst h2
      exact mm_reti F hH hr hlocks rfl rfl dX2_digit_28
/-! IslandHeapModel.number()I -/
abbrev rm_X2_number : Room := { frames := 2, cells := 0, slots := 0, locals := 42 }
set_option maxHeartbeats 4000000 in
theorem w_X2_number_58 {p : Program} {l : Launch} {e : Env} {s : State} {m : MethodId} {av : Array Value} {below : List Frame} {meth : Method} {c : Code} {G : mm_G} {σf : mm_M} {rr : Int32} {n : Nat} {h0 : Nat} (F : mm_F p s m av c RX2 cX2_number 3 G) (hr : meth.sig.returnType = (Option.some .int)) (hlocks : meth.locks = false) (hname : meth.name = yX2_number.name) (IH7 : ∀ (x1 : Int32) (x2 : Int32) (σ : mm_M) (H : Heap) (locs : List Loc) (ls : Array Slot), mm_H G s σ H locs → lv_has ls 3 [(0, .ref h0), (1, .int x1), (2, .int x2)] → itn (s_X2_number h0) n (x1, x2, σ) = some (rr, σf) → W p l e rm_X2_number s m av below meth c H locs 0 0 (MQ below (mm_Qi G rr σf) av s 0 0 (mm_A G)) (F0 m 7 ls []))  (x1 : Int32) (x2 : Int32)  (σ : mm_M) (hf : evn (s_X2_number h0) n (g_X2_number_58 h0 x1 x2 σ) = some (rr, σf)) {H : Heap} {locs : List Loc} {ls : Array Slot} (hH : mm_H G s σ H locs) (hl : lv_has ls 3 [(0, .ref h0), (1, .int x1), (2, .int x2)]) : W p l e rm_X2_number s m av below meth c H locs 0 0 (MQ below (mm_Qi G rr σf) av s 0 0 (mm_A G)) (F0 m 58 ls []) := by
  have hx := F.1
  have hb := F.2.1
  have hml := F.2.2.1
  have hown := F.2.2.2.1
  have hts := F.2.2.2.2.1
  unfold g_X2_number_58 at hf
  refine lv_aload_n hx hb dX2_number_58 rfl (lv_at hl 0 rfl) ?_
  replace hf := evn_b1 hf
  obtain ⟨v1, e1, hf⟩ := hf
  refine mm_getI F hH mc_2 (k := 15) (by decide) (hts _ q1062) (fun _ h => h) e1 dX2_number_59 ?_
  refine lv_iload_n hx hb dX2_number_62 rfl (lv_at hl 1 rfl) ?_
  refine lv_icmp_eq (tgt := 73) hx hb dX2_number_63 (by decide) (fun c2 => ?_) (fun c2 => ?_)
  · rw [if_pos c2] at hf
    refine lv_aload_n hx hb dX2_number_73 rfl (lv_at hl 0 rfl) ?_
    replace hf := evn_b1 hf
    obtain ⟨u, e2, hf⟩ := hf
    obtain ⟨fs, ek⟩ := ck_i e2
    replace hf := evn_b1 hf
    obtain ⟨σ3, e3, hf⟩ := hf
    refine mm_cv (va_runV (As := []) (rest := []) ⟨hx, hb, hml, hown, hts⟩ (m_X2_fails l G h0 σ σ3 e3) (cwV 0 hts (lw_V q1287 q1289 qs54 q67 q1290) rfl rfl rfl (by decide +kernel) ⟨Nat.le_of_ble_eq_true rfl, Nat.le_of_ble_eq_true rfl⟩) (mm_preV F.2.2.2.2.2 hH (ci := 2) rfl ek) rfl rfl hl.1 rfl (lv_room (Nat.le_of_ble_eq_true rfl)) dX2_number_74 ⟨Nat.le_of_ble_eq_true rfl, Nat.le_of_ble_eq_true rfl⟩) hH (fun H locs hH => ?_)
    refine lv_aload_n hx hb dX2_number_77 rfl (lv_at hl 0 rfl) ?_
    replace hf := evn_b1 hf
    obtain ⟨u, e4, hf⟩ := hf
    obtain ⟨fs, ek⟩ := ck_i e4
    replace hf := evn_b1 hf
    obtain ⟨σ4, e5, hf⟩ := hf
    refine mm_cv (va_runV (As := []) (rest := []) ⟨hx, hb, hml, hown, hts⟩ (m_X2_blanks l G h0 σ3 σ4 e5) (cwV 0 hts (lw_V q1275 q1277 qs51 q67 q1278) rfl rfl rfl (by decide +kernel) ⟨Nat.le_of_ble_eq_true rfl, Nat.le_of_ble_eq_true rfl⟩) (mm_preV F.2.2.2.2.2 hH (ci := 2) rfl ek) rfl rfl hl.1 rfl (lv_room (Nat.le_of_ble_eq_true rfl)) dX2_number_78 ⟨Nat.le_of_ble_eq_true rfl, Nat.le_of_ble_eq_true rfl⟩) hH (fun H locs hH => ?_)
    refine lv_iload_n hx hb dX2_number_81 rfl (lv_at hl 2 rfl) ?_
    rw [evn_r] at hf
    obtain ⟨h1, h2⟩ := Prod.mk.inj (Option.some.inj hf)
    subst h1
    subst h2
    exact mm_reti F hH hr hlocks rfl rfl dX2_number_82
  · rw [if_neg c2] at hf
    refine lv_aload_n hx hb dX2_number_66 rfl (lv_at hl 0 rfl) ?_
    replace hf := evn_b1 hf
    obtain ⟨u, e6, hf⟩ := hf
    obtain ⟨fs, ek⟩ := ck_i e6
    replace hf := evn_b1 hf
    obtain ⟨v5, e7, hf⟩ := hf
    refine mm_ci (va_runV (As := []) (rest := []) ⟨hx, hb, hml, hown, hts⟩ (m_X2_isDigit l G h0 σ v5 e7) (cwV 0 hts (lw_V q1295 q1297 qs56 q67 q1298) rfl rfl rfl (by decide +kernel) ⟨Nat.le_of_ble_eq_true rfl, Nat.le_of_ble_eq_true rfl⟩) (mm_preV F.2.2.2.2.2 hH (ci := 2) rfl ek) rfl rfl hl.1 rfl (lv_room (Nat.le_of_ble_eq_true rfl)) dX2_number_67 ⟨Nat.le_of_ble_eq_true rfl, Nat.le_of_ble_eq_true rfl⟩) hH (fun H locs hH => ?_)
    refine lv_if_eq (tgt := 77) hx hb dX2_number_70 (by decide) (fun c6 => ?_) (fun c6 => ?_)
    · rw [if_pos c6] at hf
      refine lv_aload_n hx hb dX2_number_77 rfl (lv_at hl 0 rfl) ?_
      replace hf := evn_b1 hf
      obtain ⟨u, e8, hf⟩ := hf
      obtain ⟨fs, ek⟩ := ck_i e8
      replace hf := evn_b1 hf
      obtain ⟨σ7, e9, hf⟩ := hf
      refine mm_cv (va_runV (As := []) (rest := []) ⟨hx, hb, hml, hown, hts⟩ (m_X2_blanks l G h0 σ σ7 e9) (cwV 0 hts (lw_V q1275 q1277 qs51 q67 q1278) rfl rfl rfl (by decide +kernel) ⟨Nat.le_of_ble_eq_true rfl, Nat.le_of_ble_eq_true rfl⟩) (mm_preV F.2.2.2.2.2 hH (ci := 2) rfl ek) rfl rfl hl.1 rfl (lv_room (Nat.le_of_ble_eq_true rfl)) dX2_number_78 ⟨Nat.le_of_ble_eq_true rfl, Nat.le_of_ble_eq_true rfl⟩) hH (fun H locs hH => ?_)
      refine lv_iload_n hx hb dX2_number_81 rfl (lv_at hl 2 rfl) ?_
      rw [evn_r] at hf
      obtain ⟨h1, h2⟩ := Prod.mk.inj (Option.some.inj hf)
      subst h1
      subst h2
      exact mm_reti F hH hr hlocks rfl rfl dX2_number_82
    · rw [if_neg c6] at hf
      refine lv_aload_n hx hb dX2_number_73 rfl (lv_at hl 0 rfl) ?_
      replace hf := evn_b1 hf
      obtain ⟨u, e10, hf⟩ := hf
      obtain ⟨fs, ek⟩ := ck_i e10
      replace hf := evn_b1 hf
      obtain ⟨σ8, e11, hf⟩ := hf
      refine mm_cv (va_runV (As := []) (rest := []) ⟨hx, hb, hml, hown, hts⟩ (m_X2_fails l G h0 σ σ8 e11) (cwV 0 hts (lw_V q1287 q1289 qs54 q67 q1290) rfl rfl rfl (by decide +kernel) ⟨Nat.le_of_ble_eq_true rfl, Nat.le_of_ble_eq_true rfl⟩) (mm_preV F.2.2.2.2.2 hH (ci := 2) rfl ek) rfl rfl hl.1 rfl (lv_room (Nat.le_of_ble_eq_true rfl)) dX2_number_74 ⟨Nat.le_of_ble_eq_true rfl, Nat.le_of_ble_eq_true rfl⟩) hH (fun H locs hH => ?_)
      refine lv_aload_n hx hb dX2_number_77 rfl (lv_at hl 0 rfl) ?_
      replace hf := evn_b1 hf
      obtain ⟨u, e12, hf⟩ := hf
      obtain ⟨fs, ek⟩ := ck_i e12
      replace hf := evn_b1 hf
      obtain ⟨σ9, e13, hf⟩ := hf
      refine mm_cv (va_runV (As := []) (rest := []) ⟨hx, hb, hml, hown, hts⟩ (m_X2_blanks l G h0 σ8 σ9 e13) (cwV 0 hts (lw_V q1275 q1277 qs51 q67 q1278) rfl rfl rfl (by decide +kernel) ⟨Nat.le_of_ble_eq_true rfl, Nat.le_of_ble_eq_true rfl⟩) (mm_preV F.2.2.2.2.2 hH (ci := 2) rfl ek) rfl rfl hl.1 rfl (lv_room (Nat.le_of_ble_eq_true rfl)) dX2_number_78 ⟨Nat.le_of_ble_eq_true rfl, Nat.le_of_ble_eq_true rfl⟩) hH (fun H locs hH => ?_)
      refine lv_iload_n hx hb dX2_number_81 rfl (lv_at hl 2 rfl) ?_
      rw [evn_r] at hf
      obtain ⟨h1, h2⟩ := Prod.mk.inj (Option.some.inj hf)
      subst h1
      subst h2
      exact mm_reti F hH hr hlocks rfl rfl dX2_number_82
set_option maxHeartbeats 4000000 in
theorem w_X2_number_7 {p : Program} {l : Launch} {e : Env} {s : State} {m : MethodId} {av : Array Value} {below : List Frame} {meth : Method} {c : Code} {G : mm_G} {σf : mm_M} {rr : Int32} {n : Nat} {h0 : Nat} (F : mm_F p s m av c RX2 cX2_number 3 G) (hr : meth.sig.returnType = (Option.some .int)) (hlocks : meth.locks = false) (hname : meth.name = yX2_number.name) (IH7 : ∀ (x1 : Int32) (x2 : Int32) (σ : mm_M) (H : Heap) (locs : List Loc) (ls : Array Slot), mm_H G s σ H locs → lv_has ls 3 [(0, .ref h0), (1, .int x1), (2, .int x2)] → itn (s_X2_number h0) n (x1, x2, σ) = some (rr, σf) → W p l e rm_X2_number s m av below meth c H locs 0 0 (MQ below (mm_Qi G rr σf) av s 0 0 (mm_A G)) (F0 m 7 ls []))  (x1 : Int32) (x2 : Int32)  (σ : mm_M) (hf : evn (s_X2_number h0) n (g_X2_number_7 h0 x1 x2 σ) = some (rr, σf)) {H : Heap} {locs : List Loc} {ls : Array Slot} (hH : mm_H G s σ H locs) (hl : lv_has ls 3 [(0, .ref h0), (1, .int x1), (2, .int x2)]) : W p l e rm_X2_number s m av below meth c H locs 0 0 (MQ below (mm_Qi G rr σf) av s 0 0 (mm_A G)) (F0 m 7 ls []) := by
  have hx := F.1
  have hb := F.2.1
  have hml := F.2.2.1
  have hown := F.2.2.2.1
  have hts := F.2.2.2.2.1
  unfold g_X2_number_7 at hf
  refine lv_aload_n hx hb dX2_number_7 rfl (lv_at hl 0 rfl) ?_
  replace hf := evn_b1 hf
  obtain ⟨v1, e1, hf⟩ := hf
  refine mm_getI F hH mc_2 (k := 16) (by decide) (hts _ q1063) (fun _ h => h) e1 dX2_number_8 ?_
  refine lv_iconst (v := (-1)) hx hb dX2_number_11 (by decide) ?_
  refine lv_icmp_ne (tgt := 58) hx hb dX2_number_12 (by decide) (fun c2 => ?_) (fun c2 => ?_)
  · rw [if_neg c2] at hf
    exact w_X2_number_58 F hr hlocks hname IH7 x1 x2 σ hf hH (lv_sub hl [0, 1, 2] rfl)
  · rw [if_pos c2] at hf
    refine lv_aload_n hx hb dX2_number_15 rfl (lv_at hl 0 rfl) ?_
    replace hf := evn_b1 hf
    obtain ⟨u, e2, hf⟩ := hf
    obtain ⟨fs, ek⟩ := ck_i e2
    replace hf := evn_b1 hf
    obtain ⟨v3, e3, hf⟩ := hf
    refine mm_ci (va_runV (As := []) (rest := []) ⟨hx, hb, hml, hown, hts⟩ (m_X2_isDigit l G h0 σ v3 e3) (cwV 0 hts (lw_V q1295 q1297 qs56 q67 q1298) rfl rfl rfl (by decide +kernel) ⟨Nat.le_of_ble_eq_true rfl, Nat.le_of_ble_eq_true rfl⟩) (mm_preV F.2.2.2.2.2 hH (ci := 2) rfl ek) rfl rfl hl.1 rfl (lv_room (Nat.le_of_ble_eq_true rfl)) dX2_number_16 ⟨Nat.le_of_ble_eq_true rfl, Nat.le_of_ble_eq_true rfl⟩) hH (fun H locs hH => ?_)
    refine lv_if_eq (tgt := 58) hx hb dX2_number_19 (by decide) (fun c4 => ?_) (fun c4 => ?_)
    · rw [if_pos c4] at hf
      exact w_X2_number_58 F hr hlocks hname IH7 x1 x2 σ hf hH (lv_sub hl [0, 1, 2] rfl)
    · rw [if_neg c4] at hf
      refine lv_aload_n hx hb dX2_number_22 rfl (lv_at hl 0 rfl) ?_
      replace hf := evn_b1 hf
      obtain ⟨v5, e4, hf⟩ := hf
      refine mm_getI F hH mc_2 (k := 15) (by decide) (hts _ q1062) (fun _ h => h) e4 dX2_number_23 ?_
      refine lv_iload_n hx hb dX2_number_26 rfl (lv_at hl 1 rfl) ?_
      refine lv_iconst (v := 3) hx hb dX2_number_27 (by decide) ?_
      refine lv_iadd hx hb dX2_number_28 ?_
      refine lv_icmp_ge (tgt := 58) hx hb dX2_number_29 (by decide) (fun c6 => ?_) (fun c6 => ?_)
      · rw [if_pos c6] at hf
        exact w_X2_number_58 F hr hlocks hname IH7 x1 x2 σ hf hH (lv_sub hl [0, 1, 2] rfl)
      · rw [if_neg c6] at hf
        refine lv_bipush (v := 10) hx hb dX2_number_32 (by decide) ?_
        refine lv_iload_n hx hb dX2_number_34 rfl (lv_at hl 2 rfl) ?_
        refine lv_imul hx hb dX2_number_35 ?_
        refine lv_aload_n hx hb dX2_number_36 rfl (lv_at hl 0 rfl) ?_
        replace hf := evn_b1 hf
        obtain ⟨u, e5, hf⟩ := hf
        obtain ⟨fs, ek⟩ := ck_i e5
        replace hf := evn_b1 hf
        obtain ⟨v7, e6, hf⟩ := hf
        refine mm_ci (va_runV (As := []) (rest := [.int ((10 : Int32) * x2)]) ⟨hx, hb, hml, hown, hts⟩ (m_X2_next_2 l G h0 σ v7 e6) (cwV 0 hts (lw_V q1279 q1281 qs52 q67 q1282) rfl rfl rfl (by decide +kernel) ⟨Nat.le_of_ble_eq_true rfl, Nat.le_of_ble_eq_true rfl⟩) (mm_preV F.2.2.2.2.2 hH (ci := 2) rfl ek) rfl rfl hl.1 rfl (lv_room (Nat.le_of_ble_eq_true rfl)) dX2_number_37 ⟨Nat.le_of_ble_eq_true rfl, Nat.le_of_ble_eq_true rfl⟩) hH (fun H locs hH => ?_)
        refine lv_iadd hx hb dX2_number_40 ?_
        refine lv_bipush (v := 48) hx hb dX2_number_41 (by decide) ?_
        refine lv_isub hx hb dX2_number_43 ?_
        refine lv_istore_n (lv' := [(2, .int ((((10 : Int32) * x2) + v7) - (48 : Int32))), (0, .ref h0), (1, .int x1)]) hx hb dX2_number_44 rfl hl (by decide) rfl (fun ls hl => ?_)
        refine lv_aload_n hx hb dX2_number_45 rfl (lv_at hl 1 rfl) ?_
        refine lv_dup hx hb dX2_number_46 rfl ?_
        replace hf := evn_b1 hf
        obtain ⟨v8, e7, hf⟩ := hf
        refine mm_getI F hH mc_2 (k := 15) (by decide) (hts _ q1062) (fun _ h => h) e7 dX2_number_47 ?_
        refine lv_iconst (v := 1) hx hb dX2_number_50 (by decide) ?_
        refine lv_iadd hx hb dX2_number_51 ?_
        replace hf := evn_b1 hf
        obtain ⟨σ9, e8, hf⟩ := hf
        refine mm_put F hH mc_2 (k := 15) (v := vI (v8 + (1 : Int32))) (by decide) (hts _ q1062) (fun _ h => h) rfl rfl rfl e8 dX2_number_52 (fun H locs hH => ?_)
        refine lv_goto (tgt := 7) hx hb dX2_number_55 (by decide) ?_
        rw [evn_l] at hf
        exact IH7 x1 ((((10 : Int32) * x2) + v7) - (48 : Int32)) σ9 _ _ _ hH (lv_sub hl [1, 2, 0] rfl) hf
set_option maxHeartbeats 4000000 in
theorem w_X2_number_0 {p : Program} {l : Launch} {e : Env} {s : State} {m : MethodId} {av : Array Value} {below : List Frame} {meth : Method} {c : Code} {G : mm_G} {σf : mm_M} {rr : Int32} {n : Nat} {h0 : Nat} (F : mm_F p s m av c RX2 cX2_number 3 G) (hr : meth.sig.returnType = (Option.some .int)) (hlocks : meth.locks = false) (hname : meth.name = yX2_number.name) (IH7 : ∀ (x1 : Int32) (x2 : Int32) (σ : mm_M) (H : Heap) (locs : List Loc) (ls : Array Slot), mm_H G s σ H locs → lv_has ls 3 [(0, .ref h0), (1, .int x1), (2, .int x2)] → itn (s_X2_number h0) n (x1, x2, σ) = some (rr, σf) → W p l e rm_X2_number s m av below meth c H locs 0 0 (MQ below (mm_Qi G rr σf) av s 0 0 (mm_A G)) (F0 m 7 ls []))    (σ : mm_M) (hf : evn (s_X2_number h0) n (g_X2_number_0 h0 σ) = some (rr, σf)) {H : Heap} {locs : List Loc} {ls : Array Slot} (hH : mm_H G s σ H locs) (hl : lv_has ls 3 [(0, .ref h0)]) : W p l e rm_X2_number s m av below meth c H locs 0 0 (MQ below (mm_Qi G rr σf) av s 0 0 (mm_A G)) (F0 m 0 ls []) := by
  have hx := F.1
  have hb := F.2.1
  have hml := F.2.2.1
  have hown := F.2.2.2.1
  have hts := F.2.2.2.2.1
  unfold g_X2_number_0 at hf
  refine lv_aload_n hx hb dX2_number_0 rfl (lv_at hl 0 rfl) ?_
  replace hf := evn_b1 hf
  obtain ⟨v1, e1, hf⟩ := hf
  refine mm_getI F hH mc_2 (k := 15) (by decide) (hts _ q1062) (fun _ h => h) e1 dX2_number_1 ?_
  refine lv_istore_n (lv' := [(1, .int v1), (0, .ref h0)]) hx hb dX2_number_4 rfl hl (by decide) rfl (fun ls hl => ?_)
  refine lv_iconst (v := 0) hx hb dX2_number_5 (by decide) ?_
  refine lv_istore_n (lv' := [(2, .int (0 : Int32)), (1, .int v1), (0, .ref h0)]) hx hb dX2_number_6 rfl hl (by decide) rfl (fun ls hl => ?_)
  rw [evn_l] at hf
  exact IH7 v1 (0 : Int32) σ _ _ _ hH (lv_sub hl [2, 1, 0] rfl) hf
set_option maxHeartbeats 4000000 in
theorem l_X2_number {p : Program} {l : Launch} {e : Env} {s : State} {m : MethodId} {av : Array Value} {below : List Frame} {meth : Method} {c : Code} {G : mm_G} {σf : mm_M} {rr : Int32} {h0 : Nat} (F : mm_F p s m av c RX2 cX2_number 3 G) (hr : meth.sig.returnType = (Option.some .int)) (hlocks : meth.locks = false) (hname : meth.name = yX2_number.name) : ∀ n : Nat, (∀ (x1 : Int32) (x2 : Int32) (σ : mm_M) (H : Heap) (locs : List Loc) (ls : Array Slot), mm_H G s σ H locs → lv_has ls 3 [(0, .ref h0), (1, .int x1), (2, .int x2)] → itn (s_X2_number h0) n (x1, x2, σ) = some (rr, σf) → W p l e rm_X2_number s m av below meth c H locs 0 0 (MQ below (mm_Qi G rr σf) av s 0 0 (mm_A G)) (F0 m 7 ls [])) := by
  intro n
  induction n with
  | zero =>
    exact fun x1 x2 σ H locs ls hH hl hf => by cases hf
  | succ n ih =>
    have IH7 := ih
    intro x1 x2 σ H locs ls hH hl hf
    rw [itn_s] at hf
    exact w_X2_number_7 F hr hlocks hname IH7 x1 x2 σ hf hH hl
set_option maxHeartbeats 4000000 in
theorem m_X2_number (l : Launch) (G : mm_G) (h0 : Nat) (σ : mm_M) (σf : mm_M) (rr : Int32) (hf : f_X2_number h0 σ = some (rr, σf)) : Met l yX2_number (ws_ yX2_number cX2_number 3 ((Option.some .int))) rm_X2_number (mm_Pc G [.ref h0] σ) (mm_Qi G rr σf) 0 0 (mm_A G) := by
  refine mm_met (by decide) rfl rfl (by  exact Nat.le_of_ble_eq_true rfl) (fun p e s m below meth c ls F hH hr hlocks hname hl => ?_)
  have hl : lv_has ls 3 [(0, .ref h0)] := by  exact hl
  have F : mm_F p s m _ c RX2 cX2_number 3 G := F
  unfold f_X2_number at hf
  obtain ⟨n, hf⟩ := lgo_i hf
  have IH := l_X2_number (l := l) (e := e) (below := below) (rr := rr) (σf := σf) (h0 := h0) F hr hlocks hname n
  exact w_X2_number_0 F hr hlocks hname IH σ hf hH (lv_sub hl [0] rfl)
