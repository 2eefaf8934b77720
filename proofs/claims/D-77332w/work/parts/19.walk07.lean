/-! WALKS -/
set_option maxRecDepth 100000
/-! IslandHeapModel.dataOf(I)I -/
abbrev rm_X2_dataOf : Room := { frames := 0, cells := 0, slots := 0, locals := 0 }
set_option maxHeartbeats 4000000 in
theorem m_X2_dataOf (l : Launch) (G : mm_G) (h0 : Nat) (x1 : Int32) (σ : mm_M) (rr : Int32) (hf : f_X2_dataOf h0 x1 σ = some rr) : Met l yX2_dataOf (ws_ yX2_dataOf cX2_dataOf 2 ((Option.some .int))) rm_X2_dataOf (mm_Pc G [.ref h0, .int x1] σ) (mm_Qi G rr σ) 0 0 (mm_A G) := by
  refine mm_met (by decide) rfl rfl (by  exact Nat.le_of_ble_eq_true rfl) (fun p e s m below meth c ls F hH hr hlocks hname hl => ?_)
  have hl : lv_has ls 2 [(0, .ref h0), (1, .int x1)] := by  exact hl
  have F : mm_F p s m _ c RX2 cX2_dataOf 2 G := F
  have hx := F.1
  have hb := F.2.1
  have hml := F.2.2.1
  have hown := F.2.2.2.1
  have hts := F.2.2.2.2.1
  unfold f_X2_dataOf at hf
  refine lv_aload_n hx hb dX2_dataOf_0 rfl (lv_at hl 0 rfl) ?_
  replace hf := b1_i hf
  obtain ⟨q1, e1, hf⟩ := hf
  refine mm_getA F hH mc_2 (k := 0) (by decide) (hts _ q1047) (fun _ h => h) e1 dX2_dataOf_1 ?_
  refine lv_iconst (v := 0) hx hb dX2_dataOf_4 (by decide) ?_
  refine lv_iload_n hx hb dX2_dataOf_5 rfl (lv_at hl 1 rfl) ?_
  refine lv_iadd hx hb dX2_dataOf_6 ?_
  replace hf := b1_i hf
  obtain ⟨v2, e2, hf⟩ := hf
  refine mm_iald F hH e2 dX2_dataOf_7 ?_
  refine lv_iconst (v := 1) hx hb dX2_dataOf_8 (by decide) ?_
  refine lv_isub hx hb dX2_dataOf_9 ?_
  refine lv_aload_n hx hb dX2_dataOf_10 rfl (lv_at hl 0 rfl) ?_
  replace hf := b1_i hf
  obtain ⟨q3, e3, hf⟩ := hf
  refine mm_getA F hH mc_2 (k := 0) (by decide) (hts _ q1047) (fun _ h => h) e3 dX2_dataOf_11 ?_
  refine lv_sipush (v := 200) hx hb dX2_dataOf_14 (by decide) ?_
  refine lv_iload_n hx hb dX2_dataOf_17 rfl (lv_at hl 1 rfl) ?_
  refine lv_iadd hx hb dX2_dataOf_18 ?_
  replace hf := b1_i hf
  obtain ⟨v4, e4, hf⟩ := hf
  refine mm_iald F hH e4 dX2_dataOf_19 ?_
  refine lv_isub hx hb dX2_dataOf_20 ?_
  have h1 := Option.some.inj hf
  subst h1
  exact mm_reti F hH hr hlocks rfl rfl dX2_dataOf_21
/-! IslandHeapModel.referring(I)I -/
abbrev rm_X2_referring : Room := { frames := 2, cells := 0, slots := 0, locals := 44 }
set_option maxHeartbeats 4000000 in
theorem w_X2_referring_4 {p : Program} {l : Launch} {e : Env} {s : State} {m : MethodId} {av : Array Value} {below : List Frame} {meth : Method} {c : Code} {G : mm_G} {rr : Int32} {n : Nat} {σ : mm_M} {h0 : Nat} {x1 : Int32} (F : mm_F p s m av c RX2 cX2_referring 5 G) (hr : meth.sig.returnType = (Option.some .int)) (hlocks : meth.locks = false) (hname : meth.name = yX2_referring.name) (IH4 : ∀ (x2 : Int32) (x3 : Int32) (H : Heap) (locs : List Loc) (ls : Array Slot), mm_H G s σ H locs → lv_has ls 5 [(0, .ref h0), (1, .int x1), (2, .int x2), (3, .int x3)] → itn (s_X2_referring h0 x1 σ) n (.inl (x2, x3)) = some rr → W p l e rm_X2_referring s m av below meth c H locs 0 0 (MQ below (mm_Qi G rr σ) av s 0 0 (mm_A G)) (F0 m 4 ls [])) (IH58 : ∀ (x2 : Int32) (x3 : Int32) (H : Heap) (locs : List Loc) (ls : Array Slot), mm_H G s σ H locs → lv_has ls 5 [(0, .ref h0), (1, .int x1), (2, .int x2), (3, .int x3)] → itn (s_X2_referring h0 x1 σ) n (.inr (.inl (x2, x3))) = some rr → W p l e rm_X2_referring s m av below meth c H locs 0 0 (MQ below (mm_Qi G rr σ) av s 0 0 (mm_A G)) (F0 m 58 ls [])) (IH73 : ∀ (x2 : Int32) (x3 : Int32) (x4 : Int32) (H : Heap) (locs : List Loc) (ls : Array Slot), mm_H G s σ H locs → lv_has ls 5 [(0, .ref h0), (1, .int x1), (2, .int x2), (3, .int x3), (4, .int x4)] → itn (s_X2_referring h0 x1 σ) n (.inr (.inr (x2, x3, x4))) = some rr → W p l e rm_X2_referring s m av below meth c H locs 0 0 (MQ below (mm_Qi G rr σ) av s 0 0 (mm_A G)) (F0 m 73 ls []))  (x2 : Int32) (x3 : Int32)  (hf : evn (s_X2_referring h0 x1 σ) n (g_X2_referring_4 h0 x1 x2 x3 σ) = some rr) {H : Heap} {locs : List Loc} {ls : Array Slot} (hH : mm_H G s σ H locs) (hl : lv_has ls 5 [(0, .ref h0), (1, .int x1), (2, .int x2), (3, .int x3)]) : W p l e rm_X2_referring s m av below meth c H locs 0 0 (MQ below (mm_Qi G rr σ) av s 0 0 (mm_A G)) (F0 m 4 ls []) := by
  have hx := F.1
  have hb := F.2.1
  have hml := F.2.2.1
  have hown := F.2.2.2.1
  have hts := F.2.2.2.2.1
  unfold g_X2_referring_4 at hf
  refine lv_iload_n hx hb dX2_referring_4 rfl (lv_at hl 3 rfl) ?_
  refine lv_bipush (v := 10) hx hb dX2_referring_5 (by decide) ?_
  refine lv_icmp_ge (tgt := 56) hx hb dX2_referring_7 (by decide) (fun c1 => ?_) (fun c1 => ?_)
  · rw [if_pos c1] at hf
    refine lv_iconst (v := 0) hx hb dX2_referring_56 (by decide) ?_
    refine lv_istore_n (lv' := [(3, .int (0 : Int32)), (0, .ref h0), (1, .int x1), (2, .int x2)]) hx hb dX2_referring_57 rfl hl (by decide) rfl (fun ls hl => ?_)
    rw [evn_l] at hf
    exact IH58 x2 (0 : Int32) _ _ _ hH (lv_sub hl [1, 2, 3, 0] rfl) hf
  · rw [if_neg c1] at hf
    refine lv_iload_n hx hb dX2_referring_10 rfl (lv_at hl 2 rfl) ?_
    refine lv_aload_n hx hb dX2_referring_11 rfl (lv_at hl 0 rfl) ?_
    replace hf := evn_b1 hf
    obtain ⟨q2, e1, hf⟩ := hf
    refine mm_getA F hH mc_2 (k := 0) (by decide) (hts _ q1047) (fun _ h => h) e1 dX2_referring_12 ?_
    refine lv_sipush (v := 1200) hx hb dX2_referring_15 (by decide) ?_
    refine lv_iload_n hx hb dX2_referring_18 rfl (lv_at hl 3 rfl) ?_
    refine lv_iadd hx hb dX2_referring_19 ?_
    replace hf := evn_b1 hf
    obtain ⟨v3, e2, hf⟩ := hf
    refine mm_iald F hH e2 dX2_referring_20 ?_
    refine lv_iconst (v := (-1)) hx hb dX2_referring_21 (by decide) ?_
    refine lv_icmp_eq (tgt := 47) hx hb dX2_referring_22 (by decide) (fun c4 => ?_) (fun c4 => ?_)
    · rw [if_pos c4] at hf
      refine lv_iconst (v := 0) hx hb dX2_referring_47 (by decide) ?_
      refine lv_iadd hx hb dX2_referring_48 ?_
      refine lv_istore_n (lv' := [(2, .int (x2 + (0 : Int32))), (0, .ref h0), (1, .int x1), (3, .int x3)]) hx hb dX2_referring_49 rfl hl (by decide) rfl (fun ls hl => ?_)
      refine lv_iinc (v := x3 + (1 : Int32)) (lv' := [(3, .int (x3 + (1 : Int32))), (2, .int (x2 + (0 : Int32))), (0, .ref h0), (1, .int x1)]) hx hb dX2_referring_50 hl (k := 3) rfl rfl (by decide) rfl (fun ls hl => ?_)
      refine lv_goto (tgt := 4) hx hb dX2_referring_53 (by decide) ?_
      rw [evn_l] at hf
      exact IH4 (x2 + (0 : Int32)) (x3 + (1 : Int32)) _ _ _ hH (lv_sub hl [2, 3, 1, 0] rfl) hf
    · rw [if_neg c4] at hf
      refine lv_aload_n hx hb dX2_referring_25 rfl (lv_at hl 0 rfl) ?_
      refine lv_aload_n hx hb dX2_referring_26 rfl (lv_at hl 0 rfl) ?_
      replace hf := evn_b1 hf
      obtain ⟨q5, e3, hf⟩ := hf
      refine mm_getA F hH mc_2 (k := 0) (by decide) (hts _ q1047) (fun _ h => h) e3 dX2_referring_27 ?_
      refine lv_sipush (v := 1200) hx hb dX2_referring_30 (by decide) ?_
      refine lv_iload_n hx hb dX2_referring_33 rfl (lv_at hl 3 rfl) ?_
      refine lv_iadd hx hb dX2_referring_34 ?_
      replace hf := evn_b1 hf
      obtain ⟨v6, e4, hf⟩ := hf
      refine mm_iald F hH e4 dX2_referring_35 ?_
      replace hf := evn_b1 hf
      obtain ⟨u, e5, hf⟩ := hf
      obtain ⟨fs, ek⟩ := ck_i e5
      replace hf := evn_b1 hf
      obtain ⟨v7, e6, hf⟩ := hf
      refine mm_ci (va_runV (As := [.int v6]) (rest := [.int x2]) ⟨hx, hb, hml, hown, hts⟩ (m_X2_objectOf l G h0 v6 σ v7 e6) (cwV 1 hts (lw_V q1124 q1126 qs34 q67 q1127) rfl rfl rfl (by decide +kernel) ⟨Nat.le_of_ble_eq_true rfl, Nat.le_of_ble_eq_true rfl⟩) (mm_preV F.2.2.2.2.2 hH (ci := 2) rfl ek) rfl rfl hl.1 rfl (lv_room (Nat.le_of_ble_eq_true rfl)) dX2_referring_36 ⟨Nat.le_of_ble_eq_true rfl, Nat.le_of_ble_eq_true rfl⟩) hH (fun H locs hH => ?_)
      refine lv_iload_n hx hb dX2_referring_39 rfl (lv_at hl 1 rfl) ?_
      refine lv_icmp_ne (tgt := 47) hx hb dX2_referring_40 (by decide) (fun c8 => ?_) (fun c8 => ?_)
      · rw [if_neg c8] at hf
        refine lv_iconst (v := 0) hx hb dX2_referring_47 (by decide) ?_
        refine lv_iadd hx hb dX2_referring_48 ?_
        refine lv_istore_n (lv' := [(2, .int (x2 + (0 : Int32))), (0, .ref h0), (1, .int x1), (3, .int x3)]) hx hb dX2_referring_49 rfl hl (by decide) rfl (fun ls hl => ?_)
        refine lv_iinc (v := x3 + (1 : Int32)) (lv' := [(3, .int (x3 + (1 : Int32))), (2, .int (x2 + (0 : Int32))), (0, .ref h0), (1, .int x1)]) hx hb dX2_referring_50 hl (k := 3) rfl rfl (by decide) rfl (fun ls hl => ?_)
        refine lv_goto (tgt := 4) hx hb dX2_referring_53 (by decide) ?_
        rw [evn_l] at hf
        exact IH4 (x2 + (0 : Int32)) (x3 + (1 : Int32)) _ _ _ hH (lv_sub hl [2, 3, 1, 0] rfl) hf
      · rw [if_pos c8] at hf
        refine lv_iconst (v := 1) hx hb dX2_referring_43 (by decide) ?_
        refine lv_goto (tgt := 48) hx hb dX2_referring_44 (by decide) ?_
        refine lv_iadd hx hb dX2_referring_48 ?_
        refine lv_istore_n (lv' := [(2, .int (x2 + (1 : Int32))), (0, .ref h0), (1, .int x1), (3, .int x3)]) hx hb dX2_referring_49 rfl hl (by decide) rfl (fun ls hl => ?_)
        refine lv_iinc (v := x3 + (1 : Int32)) (lv' := [(3, .int (x3 + (1 : Int32))), (2, .int (x2 + (1 : Int32))), (0, .ref h0), (1, .int x1)]) hx hb dX2_referring_50 hl (k := 3) rfl rfl (by decide) rfl (fun ls hl => ?_)
        refine lv_goto (tgt := 4) hx hb dX2_referring_53 (by decide) ?_
        rw [evn_l] at hf
        exact IH4 (x2 + (1 : Int32)) (x3 + (1 : Int32)) _ _ _ hH (lv_sub hl [2, 3, 1, 0] rfl) hf
set_option maxHeartbeats 4000000 in
theorem w_X2_referring_58 {p : Program} {l : Launch} {e : Env} {s : State} {m : MethodId} {av : Array Value} {below : List Frame} {meth : Method} {c : Code} {G : mm_G} {rr : Int32} {n : Nat} {σ : mm_M} {h0 : Nat} {x1 : Int32} (F : mm_F p s m av c RX2 cX2_referring 5 G) (hr : meth.sig.returnType = (Option.some .int)) (hlocks : meth.locks = false) (hname : meth.name = yX2_referring.name) (IH4 : ∀ (x2 : Int32) (x3 : Int32) (H : Heap) (locs : List Loc) (ls : Array Slot), mm_H G s σ H locs → lv_has ls 5 [(0, .ref h0), (1, .int x1), (2, .int x2), (3, .int x3)] → itn (s_X2_referring h0 x1 σ) n (.inl (x2, x3)) = some rr → W p l e rm_X2_referring s m av below meth c H locs 0 0 (MQ below (mm_Qi G rr σ) av s 0 0 (mm_A G)) (F0 m 4 ls [])) (IH58 : ∀ (x2 : Int32) (x3 : Int32) (H : Heap) (locs : List Loc) (ls : Array Slot), mm_H G s σ H locs → lv_has ls 5 [(0, .ref h0), (1, .int x1), (2, .int x2), (3, .int x3)] → itn (s_X2_referring h0 x1 σ) n (.inr (.inl (x2, x3))) = some rr → W p l e rm_X2_referring s m av below meth c H locs 0 0 (MQ below (mm_Qi G rr σ) av s 0 0 (mm_A G)) (F0 m 58 ls [])) (IH73 : ∀ (x2 : Int32) (x3 : Int32) (x4 : Int32) (H : Heap) (locs : List Loc) (ls : Array Slot), mm_H G s σ H locs → lv_has ls 5 [(0, .ref h0), (1, .int x1), (2, .int x2), (3, .int x3), (4, .int x4)] → itn (s_X2_referring h0 x1 σ) n (.inr (.inr (x2, x3, x4))) = some rr → W p l e rm_X2_referring s m av below meth c H locs 0 0 (MQ below (mm_Qi G rr σ) av s 0 0 (mm_A G)) (F0 m 73 ls []))  (x2 : Int32) (x3 : Int32)  (hf : evn (s_X2_referring h0 x1 σ) n (g_X2_referring_58 h0 x1 x2 x3 σ) = some rr) {H : Heap} {locs : List Loc} {ls : Array Slot} (hH : mm_H G s σ H locs) (hl : lv_has ls 5 [(0, .ref h0), (1, .int x1), (2, .int x2), (3, .int x3)]) : W p l e rm_X2_referring s m av below meth c H locs 0 0 (MQ below (mm_Qi G rr σ) av s 0 0 (mm_A G)) (F0 m 58 ls []) := by
  have hx := F.1
  have hb := F.2.1
  have hml := F.2.2.1
  have hown := F.2.2.2.1
  have hts := F.2.2.2.2.1
  unfold g_X2_referring_58 at hf
  refine lv_iload_n hx hb dX2_referring_58 rfl (lv_at hl 3 rfl) ?_
  refine lv_aload_n hx hb dX2_referring_59 rfl (lv_at hl 0 rfl) ?_
  replace hf := evn_b1 hf
  obtain ⟨q1, e1, hf⟩ := hf
  refine mm_getA F hH mc_2 (k := 0) (by decide) (hts _ q1047) (fun _ h => h) e1 dX2_referring_60 ?_
  refine lv_sipush (v := 1216) hx hb dX2_referring_63 (by decide) ?_
  replace hf := evn_b1 hf
  obtain ⟨v2, e2, hf⟩ := hf
  refine mm_iald F hH e2 dX2_referring_66 ?_
  refine lv_icmp_ge (tgt := 157) hx hb dX2_referring_67 (by decide) (fun c3 => ?_) (fun c3 => ?_)
  · rw [if_pos c3] at hf
    refine lv_iload_n hx hb dX2_referring_157 rfl (lv_at hl 2 rfl) ?_
    rw [evn_r] at hf
    have h1 := Option.some.inj hf
    subst h1
    exact mm_reti F hH hr hlocks rfl rfl dX2_referring_158
  · rw [if_neg c3] at hf
    refine lv_iconst (v := 1) hx hb dX2_referring_70 (by decide) ?_
    refine lv_istore (lv' := [(4, .int (1 : Int32)), (0, .ref h0), (1, .int x1), (2, .int x2), (3, .int x3)]) hx hb dX2_referring_71 hl (by decide) rfl (fun ls hl => ?_)
    rw [evn_l] at hf
    exact IH73 x2 x3 (1 : Int32) _ _ _ hH (lv_sub hl [1, 2, 3, 4, 0] rfl) hf
set_option maxHeartbeats 4000000 in
theorem w_X2_referring_73 {p : Program} {l : Launch} {e : Env} {s : State} {m : MethodId} {av : Array Value} {below : List Frame} {meth : Method} {c : Code} {G : mm_G} {rr : Int32} {n : Nat} {σ : mm_M} {h0 : Nat} {x1 : Int32} (F : mm_F p s m av c RX2 cX2_referring 5 G) (hr : meth.sig.returnType = (Option.some .int)) (hlocks : meth.locks = false) (hname : meth.name = yX2_referring.name) (IH4 : ∀ (x2 : Int32) (x3 : Int32) (H : Heap) (locs : List Loc) (ls : Array Slot), mm_H G s σ H locs → lv_has ls 5 [(0, .ref h0), (1, .int x1), (2, .int x2), (3, .int x3)] → itn (s_X2_referring h0 x1 σ) n (.inl (x2, x3)) = some rr → W p l e rm_X2_referring s m av below meth c H locs 0 0 (MQ below (mm_Qi G rr σ) av s 0 0 (mm_A G)) (F0 m 4 ls [])) (IH58 : ∀ (x2 : Int32) (x3 : Int32) (H : Heap) (locs : List Loc) (ls : Array Slot), mm_H G s σ H locs → lv_has ls 5 [(0, .ref h0), (1, .int x1), (2, .int x2), (3, .int x3)] → itn (s_X2_referring h0 x1 σ) n (.inr (.inl (x2, x3))) = some rr → W p l e rm_X2_referring s m av below meth c H locs 0 0 (MQ below (mm_Qi G rr σ) av s 0 0 (mm_A G)) (F0 m 58 ls [])) (IH73 : ∀ (x2 : Int32) (x3 : Int32) (x4 : Int32) (H : Heap) (locs : List Loc) (ls : Array Slot), mm_H G s σ H locs → lv_has ls 5 [(0, .ref h0), (1, .int x1), (2, .int x2), (3, .int x3), (4, .int x4)] → itn (s_X2_referring h0 x1 σ) n (.inr (.inr (x2, x3, x4))) = some rr → W p l e rm_X2_referring s m av below meth c H locs 0 0 (MQ below (mm_Qi G rr σ) av s 0 0 (mm_A G)) (F0 m 73 ls []))  (x2 : Int32) (x3 : Int32) (x4 : Int32)  (hf : evn (s_X2_referring h0 x1 σ) n (g_X2_referring_73 h0 x1 x2 x3 x4 σ) = some rr) {H : Heap} {locs : List Loc} {ls : Array Slot} (hH : mm_H G s σ H locs) (hl : lv_has ls 5 [(0, .ref h0), (1, .int x1), (2, .int x2), (3, .int x3), (4, .int x4)]) : W p l e rm_X2_referring s m av below meth c H locs 0 0 (MQ below (mm_Qi G rr σ) av s 0 0 (mm_A G)) (F0 m 73 ls []) := by
  have hx := F.1
  have hb := F.2.1
  have hml := F.2.2.1
  have hown := F.2.2.2.1
  have hts := F.2.2.2.2.1
  unfold g_X2_referring_73 at hf
  refine lv_iload hx hb dX2_referring_73 (lv_at hl 4 rfl) ?_
  refine lv_aload_n hx hb dX2_referring_75 rfl (lv_at hl 0 rfl) ?_
  replace hf := evn_b1 hf
  obtain ⟨q1, e1, hf⟩ := hf
  refine mm_getA F hH mc_2 (k := 0) (by decide) (hts _ q1047) (fun _ h => h) e1 dX2_referring_76 ?_
  refine lv_sipush (v := 200) hx hb dX2_referring_79 (by decide) ?_
  refine lv_iload_n hx hb dX2_referring_82 rfl (lv_at hl 3 rfl) ?_
  refine lv_iadd hx hb dX2_referring_83 ?_
  replace hf := evn_b1 hf
  obtain ⟨v2, e2, hf⟩ := hf
  refine mm_iald F hH e2 dX2_referring_84 ?_
  refine lv_icmp_gt (tgt := 151) hx hb dX2_referring_85 (by decide) (fun c3 => ?_) (fun c3 => ?_)
  · rw [if_pos c3] at hf
    refine lv_iinc (v := x3 + (1 : Int32)) (lv' := [(3, .int (x3 + (1 : Int32))), (0, .ref h0), (1, .int x1), (2, .int x2), (4, .int x4)]) hx hb dX2_referring_151 hl (k := 3) rfl rfl (by decide) rfl (fun ls hl => ?_)
    refine lv_goto (tgt := 58) hx hb dX2_referring_154 (by decide) ?_
    rw [evn_l] at hf
    exact IH58 x2 (x3 + (1 : Int32)) _ _ _ hH (lv_sub hl [1, 2, 3, 0] rfl) hf
  · rw [if_neg c3] at hf
    refine lv_aload_n hx hb dX2_referring_88 rfl (lv_at hl 0 rfl) ?_
    replace hf := evn_b1 hf
    obtain ⟨q4, e3, hf⟩ := hf
    refine mm_getA F hH mc_2 (k := 0) (by decide) (hts _ q1047) (fun _ h => h) e3 dX2_referring_89 ?_
    refine lv_iconst (v := 0) hx hb dX2_referring_92 (by decide) ?_
    refine lv_iload_n hx hb dX2_referring_93 rfl (lv_at hl 3 rfl) ?_
    refine lv_iadd hx hb dX2_referring_94 ?_
    replace hf := evn_b1 hf
    obtain ⟨v5, e4, hf⟩ := hf
    refine mm_iald F hH e4 dX2_referring_95 ?_
    refine lv_if_le (tgt := 151) hx hb dX2_referring_96 (by decide) (fun c6 => ?_) (fun c6 => ?_)
    · rw [if_pos c6] at hf
      refine lv_iinc (v := x3 + (1 : Int32)) (lv' := [(3, .int (x3 + (1 : Int32))), (0, .ref h0), (1, .int x1), (2, .int x2), (4, .int x4)]) hx hb dX2_referring_151 hl (k := 3) rfl rfl (by decide) rfl (fun ls hl => ?_)
      refine lv_goto (tgt := 58) hx hb dX2_referring_154 (by decide) ?_
      rw [evn_l] at hf
      exact IH58 x2 (x3 + (1 : Int32)) _ _ _ hH (lv_sub hl [1, 2, 3, 0] rfl) hf
    · rw [if_neg c6] at hf
      refine lv_iload_n hx hb dX2_referring_99 rfl (lv_at hl 2 rfl) ?_
      refine lv_aload_n hx hb dX2_referring_100 rfl (lv_at hl 0 rfl) ?_
      replace hf := evn_b1 hf
      obtain ⟨q7, e5, hf⟩ := hf
      refine mm_getA F hH mc_2 (k := 0) (by decide) (hts _ q1047) (fun _ h => h) e5 dX2_referring_101 ?_
      refine lv_sipush (v := 800) hx hb dX2_referring_104 (by decide) ?_
      refine lv_iload_n hx hb dX2_referring_107 rfl (lv_at hl 3 rfl) ?_
      refine lv_iadd hx hb dX2_referring_108 ?_
      refine lv_iload hx hb dX2_referring_109 (lv_at hl 4 rfl) ?_
      refine lv_iadd hx hb dX2_referring_111 ?_
      replace hf := evn_b1 hf
      obtain ⟨v8, e6, hf⟩ := hf
      refine mm_iald F hH e6 dX2_referring_112 ?_
      refine lv_iconst (v := (-1)) hx hb dX2_referring_113 (by decide) ?_
      refine lv_icmp_eq (tgt := 142) hx hb dX2_referring_114 (by decide) (fun c9 => ?_) (fun c9 => ?_)
      · rw [if_pos c9] at hf
        refine lv_iconst (v := 0) hx hb dX2_referring_142 (by decide) ?_
        refine lv_iadd hx hb dX2_referring_143 ?_
        refine lv_istore_n (lv' := [(2, .int (x2 + (0 : Int32))), (0, .ref h0), (1, .int x1), (3, .int x3), (4, .int x4)]) hx hb dX2_referring_144 rfl hl (by decide) rfl (fun ls hl => ?_)
        refine lv_iinc (v := x4 + (1 : Int32)) (lv' := [(4, .int (x4 + (1 : Int32))), (2, .int (x2 + (0 : Int32))), (0, .ref h0), (1, .int x1), (3, .int x3)]) hx hb dX2_referring_145 hl (k := 4) rfl rfl (by decide) rfl (fun ls hl => ?_)
        refine lv_goto (tgt := 73) hx hb dX2_referring_148 (by decide) ?_
        rw [evn_l] at hf
        exact IH73 (x2 + (0 : Int32)) x3 (x4 + (1 : Int32)) _ _ _ hH (lv_sub hl [2, 3, 1, 4, 0] rfl) hf
      · rw [if_neg c9] at hf
        refine lv_aload_n hx hb dX2_referring_117 rfl (lv_at hl 0 rfl) ?_
        refine lv_aload_n hx hb dX2_referring_118 rfl (lv_at hl 0 rfl) ?_
        replace hf := evn_b1 hf
        obtain ⟨q10, e7, hf⟩ := hf
        refine mm_getA F hH mc_2 (k := 0) (by decide) (hts _ q1047) (fun _ h => h) e7 dX2_referring_119 ?_
        refine lv_sipush (v := 800) hx hb dX2_referring_122 (by decide) ?_
        refine lv_iload_n hx hb dX2_referring_125 rfl (lv_at hl 3 rfl) ?_
        refine lv_iadd hx hb dX2_referring_126 ?_
        refine lv_iload hx hb dX2_referring_127 (lv_at hl 4 rfl) ?_
        refine lv_iadd hx hb dX2_referring_129 ?_
        replace hf := evn_b1 hf
        obtain ⟨v11, e8, hf⟩ := hf
        refine mm_iald F hH e8 dX2_referring_130 ?_
        replace hf := evn_b1 hf
        obtain ⟨u, e9, hf⟩ := hf
        obtain ⟨fs, ek⟩ := ck_i e9
        replace hf := evn_b1 hf
        obtain ⟨v12, e10, hf⟩ := hf
        refine mm_ci (va_runV (As := [.int v11]) (rest := [.int x2]) ⟨hx, hb, hml, hown, hts⟩ (m_X2_objectOf l G h0 v11 σ v12 e10) (cwV 1 hts (lw_V q1124 q1126 qs34 q67 q1127) rfl rfl rfl (by decide +kernel) ⟨Nat.le_of_ble_eq_true rfl, Nat.le_of_ble_eq_true rfl⟩) (mm_preV F.2.2.2.2.2 hH (ci := 2) rfl ek) rfl rfl hl.1 rfl (lv_room (Nat.le_of_ble_eq_true rfl)) dX2_referring_131 ⟨Nat.le_of_ble_eq_true rfl, Nat.le_of_ble_eq_true rfl⟩) hH (fun H locs hH => ?_)
        refine lv_iload_n hx hb dX2_referring_134 rfl (lv_at hl 1 rfl) ?_
        refine lv_icmp_ne (tgt := 142) hx hb dX2_referring_135 (by decide) (fun c13 => ?_) (fun c13 => ?_)
        · rw [if_neg c13] at hf
          refine lv_iconst (v := 0) hx hb dX2_referring_142 (by decide) ?_
          refine lv_iadd hx hb dX2_referring_143 ?_
          refine lv_istore_n (lv' := [(2, .int (x2 + (0 : Int32))), (0, .ref h0), (1, .int x1), (3, .int x3), (4, .int x4)]) hx hb dX2_referring_144 rfl hl (by decide) rfl (fun ls hl => ?_)
          refine lv_iinc (v := x4 + (1 : Int32)) (lv' := [(4, .int (x4 + (1 : Int32))), (2, .int (x2 + (0 : Int32))), (0, .ref h0), (1, .int x1), (3, .int x3)]) hx hb dX2_referring_145 hl (k := 4) rfl rfl (by decide) rfl (fun ls hl => ?_)
          refine lv_goto (tgt := 73) hx hb dX2_referring_148 (by decide) ?_
          rw [evn_l] at hf
          exact IH73 (x2 + (0 : Int32)) x3 (x4 + (1 : Int32)) _ _ _ hH (lv_sub hl [2, 3, 1, 4, 0] rfl) hf
        · rw [if_pos c13] at hf
          refine lv_iconst (v := 1) hx hb dX2_referring_138 (by decide) ?_
          refine lv_goto (tgt := 143) hx hb dX2_referring_139 (by decide) ?_
          refine lv_iadd hx hb dX2_referring_143 ?_
          refine lv_istore_n (lv' := [(2, .int (x2 + (1 : Int32))), (0, .ref h0), (1, .int x1), (3, .int x3), (4, .int x4)]) hx hb dX2_referring_144 rfl hl (by decide) rfl (fun ls hl => ?_)
          refine lv_iinc (v := x4 + (1 : Int32)) (lv' := [(4, .int (x4 + (1 : Int32))), (2, .int (x2 + (1 : Int32))), (0, .ref h0), (1, .int x1), (3, .int x3)]) hx hb dX2_referring_145 hl (k := 4) rfl rfl (by decide) rfl (fun ls hl => ?_)
          refine lv_goto (tgt := 73) hx hb dX2_referring_148 (by decide) ?_
          rw [evn_l] at hf
          exact IH73 (x2 + (1 : Int32)) x3 (x4 + (1 : Int32)) _ _ _ hH (lv_sub hl [2, 3, 1, 4, 0] rfl) hf
set_option maxHeartbeats 4000000 in
theorem w_X2_referring_0 {p : Program} {l : Launch} {e : Env} {s : State} {m : MethodId} {av : Array Value} {below : List Frame} {meth : Method} {c : Code} {G : mm_G} {rr : Int32} {n : Nat} {σ : mm_M} {h0 : Nat} {x1 : Int32} (F : mm_F p s m av c RX2 cX2_referring 5 G) (hr : meth.sig.returnType = (Option.some .int)) (hlocks : meth.locks = false) (hname : meth.name = yX2_referring.name) (IH4 : ∀ (x2 : Int32) (x3 : Int32) (H : Heap) (locs : List Loc) (ls : Array Slot), mm_H G s σ H locs → lv_has ls 5 [(0, .ref h0), (1, .int x1), (2, .int x2), (3, .int x3)] → itn (s_X2_referring h0 x1 σ) n (.inl (x2, x3)) = some rr → W p l e rm_X2_referring s m av below meth c H locs 0 0 (MQ below (mm_Qi G rr σ) av s 0 0 (mm_A G)) (F0 m 4 ls [])) (IH58 : ∀ (x2 : Int32) (x3 : Int32) (H : Heap) (locs : List Loc) (ls : Array Slot), mm_H G s σ H locs → lv_has ls 5 [(0, .ref h0), (1, .int x1), (2, .int x2), (3, .int x3)] → itn (s_X2_referring h0 x1 σ) n (.inr (.inl (x2, x3))) = some rr → W p l e rm_X2_referring s m av below meth c H locs 0 0 (MQ below (mm_Qi G rr σ) av s 0 0 (mm_A G)) (F0 m 58 ls [])) (IH73 : ∀ (x2 : Int32) (x3 : Int32) (x4 : Int32) (H : Heap) (locs : List Loc) (ls : Array Slot), mm_H G s σ H locs → lv_has ls 5 [(0, .ref h0), (1, .int x1), (2, .int x2), (3, .int x3), (4, .int x4)] → itn (s_X2_referring h0 x1 σ) n (.inr (.inr (x2, x3, x4))) = some rr → W p l e rm_X2_referring s m av below meth c H locs 0 0 (MQ below (mm_Qi G rr σ) av s 0 0 (mm_A G)) (F0 m 73 ls []))    (hf : evn (s_X2_referring h0 x1 σ) n (g_X2_referring_0 h0 x1 σ) = some rr) {H : Heap} {locs : List Loc} {ls : Array Slot} (hH : mm_H G s σ H locs) (hl : lv_has ls 5 [(0, .ref h0), (1, .int x1)]) : W p l e rm_X2_referring s m av below meth c H locs 0 0 (MQ below (mm_Qi G rr σ) av s 0 0 (mm_A G)) (F0 m 0 ls []) := by
  have hx := F.1
  have hb := F.2.1
  have hml := F.2.2.1
  have hown := F.2.2.2.1
  have hts := F.2.2.2.2.1
  unfold g_X2_referring_0 at hf
  refine lv_iconst (v := 0) hx hb dX2_referring_0 (by decide) ?_
  refine lv_istore_n (lv' := [(2, .int (0 : Int32)), (0, .ref h0), (1, .int x1)]) hx hb dX2_referring_1 rfl hl (by decide) rfl (fun ls hl => ?_)
  refine lv_iconst (v := 0) hx hb dX2_referring_2 (by decide) ?_
  refine lv_istore_n (lv' := [(3, .int (0 : Int32)), (2, .int (0 : Int32)), (0, .ref h0), (1, .int x1)]) hx hb dX2_referring_3 rfl hl (by decide) rfl (fun ls hl => ?_)
  rw [evn_l] at hf
  exact IH4 (0 : Int32) (0 : Int32) _ _ _ hH (lv_sub hl [2, 3, 1, 0] rfl) hf
set_option maxHeartbeats 4000000 in
theorem l_X2_referring {p : Program} {l : Launch} {e : Env} {s : State} {m : MethodId} {av : Array Value} {below : List Frame} {meth : Method} {c : Code} {G : mm_G} {rr : Int32} {σ : mm_M} {h0 : Nat} {x1 : Int32} (F : mm_F p s m av c RX2 cX2_referring 5 G) (hr : meth.sig.returnType = (Option.some .int)) (hlocks : meth.locks = false) (hname : meth.name = yX2_referring.name) : ∀ n : Nat, (∀ (x2 : Int32) (x3 : Int32) (H : Heap) (locs : List Loc) (ls : Array Slot), mm_H G s σ H locs → lv_has ls 5 [(0, .ref h0), (1, .int x1), (2, .int x2), (3, .int x3)] → itn (s_X2_referring h0 x1 σ) n (.inl (x2, x3)) = some rr → W p l e rm_X2_referring s m av below meth c H locs 0 0 (MQ below (mm_Qi G rr σ) av s 0 0 (mm_A G)) (F0 m 4 ls [])) ∧ (∀ (x2 : Int32) (x3 : Int32) (H : Heap) (locs : List Loc) (ls : Array Slot), mm_H G s σ H locs → lv_has ls 5 [(0, .ref h0), (1, .int x1), (2, .int x2), (3, .int x3)] → itn (s_X2_referring h0 x1 σ) n (.inr (.inl (x2, x3))) = some rr → W p l e rm_X2_referring s m av below meth c H locs 0 0 (MQ below (mm_Qi G rr σ) av s 0 0 (mm_A G)) (F0 m 58 ls [])) ∧ (∀ (x2 : Int32) (x3 : Int32) (x4 : Int32) (H : Heap) (locs : List Loc) (ls : Array Slot), mm_H G s σ H locs → lv_has ls 5 [(0, .ref h0), (1, .int x1), (2, .int x2), (3, .int x3), (4, .int x4)] → itn (s_X2_referring h0 x1 σ) n (.inr (.inr (x2, x3, x4))) = some rr → W p l e rm_X2_referring s m av below meth c H locs 0 0 (MQ below (mm_Qi G rr σ) av s 0 0 (mm_A G)) (F0 m 73 ls [])) := by
  intro n
  induction n with
  | zero =>
    exact ⟨fun x2 x3 H locs ls hH hl hf => (by cases hf), fun x2 x3 H locs ls hH hl hf => (by cases hf), fun x2 x3 x4 H locs ls hH hl hf => (by cases hf)⟩
  | succ n ih =>
    obtain ⟨IH4, IH58, IH73⟩ := ih
    refine ⟨?_, ?_, ?_⟩
    · intro x2 x3 H locs ls hH hl hf
      rw [itn_s] at hf
      exact w_X2_referring_4 F hr hlocks hname IH4 IH58 IH73 x2 x3 hf hH hl
    · intro x2 x3 H locs ls hH hl hf
      rw [itn_s] at hf
      exact w_X2_referring_58 F hr hlocks hname IH4 IH58 IH73 x2 x3 hf hH hl
    · intro x2 x3 x4 H locs ls hH hl hf
      rw [itn_s] at hf
      exact w_X2_referring_73 F hr hlocks hname IH4 IH58 IH73 x2 x3 x4 hf hH hl
set_option maxHeartbeats 4000000 in
theorem m_X2_referring (l : Launch) (G : mm_G) (h0 : Nat) (x1 : Int32) (σ : mm_M) (rr : Int32) (hf : f_X2_referring h0 x1 σ = some rr) : Met l yX2_referring (ws_ yX2_referring cX2_referring 5 ((Option.some .int))) rm_X2_referring (mm_Pc G [.ref h0, .int x1] σ) (mm_Qi G rr σ) 0 0 (mm_A G) := by
  refine mm_met (by decide) rfl rfl (by  exact Nat.le_of_ble_eq_true rfl) (fun p e s m below meth c ls F hH hr hlocks hname hl => ?_)
  have hl : lv_has ls 5 [(0, .ref h0), (1, .int x1)] := by  exact hl
  have F : mm_F p s m _ c RX2 cX2_referring 5 G := F
  unfold f_X2_referring at hf
  obtain ⟨n, hf⟩ := lgo_i hf
  have IH := l_X2_referring (l := l) (e := e) (below := below) (rr := rr) (σ := σ) (h0 := h0) (x1 := x1) F hr hlocks hname n
  exact w_X2_referring_0 F hr hlocks hname IH.1 IH.2.1 IH.2.2  hf hH (lv_sub hl [0, 1] rfl)
/-! IslandHeapModel.starts(II)V -/
abbrev rm_X2_starts : Room := { frames := 2, cells := 0, slots := 0, locals := 44 }
set_option maxHeartbeats 4000000 in
theorem w_X2_starts_14 {p : Program} {l : Launch} {e : Env} {s : State} {m : MethodId} {av : Array Value} {below : List Frame} {meth : Method} {c : Code} {G : mm_G} {σf : mm_M}  {h0 : Nat} {x1 : Int32} {x2 : Int32} (F : mm_F p s m av c RX2 cX2_starts 4 G) (hr : meth.sig.returnType = (Option.none : Option Jvm.ClassFile.FieldType)) (hlocks : meth.locks = false) (hname : meth.name = yX2_starts.name)    (t0 : Int32) (σ : mm_M) (hf : g_X2_starts_14 h0 x1 x2 t0 σ = some σf) {H : Heap} {locs : List Loc} {ls : Array Slot} (hH : mm_H G s σ H locs) (hl : lv_has ls 4 [(0, .ref h0), (1, .int x1), (2, .int x2)]) : W p l e rm_X2_starts s m av below meth c H locs 0 0 (MQ below (mm_Qv G σf) av s 0 0 (mm_A G)) (F0 m 14 ls [.int t0]) := by
  have hx := F.1
  have hb := F.2.1
  have hml := F.2.2.1
  have hown := F.2.2.2.1
  have hts := F.2.2.2.2.1
  unfold g_X2_starts_14 at hf
  refine lv_istore_n (lv' := [(3, .int t0), (0, .ref h0), (1, .int x1), (2, .int x2)]) hx hb dX2_starts_14 rfl hl (by decide) rfl (fun ls hl => ?_)
  refine lv_iload_n hx hb dX2_starts_15 rfl (lv_at hl 0 rfl) ?_
  refine lv_iconst (v := (-1)) hx hb dX2_starts_16 (by decide) ?_
  refine lv_icmp_eq (tgt := 32) hx hb dX2_starts_17 (by decide) (fun c1 => ?_) (fun c1 => ?_)
  · rw [if_pos c1] at hf
    have h1 := Option.some.inj hf
    subst h1
    exact mm_retv F hH hr hlocks dX2_starts_32
  · rw [if_neg c1] at hf
    refine lv_iload_n hx hb dX2_starts_20 rfl (lv_at hl 0 rfl) ?_
    refine lv_iload_n hx hb dX2_starts_21 rfl (lv_at hl 3 rfl) ?_
    refine lv_icmp_eq (tgt := 32) hx hb dX2_starts_22 (by decide) (fun c2 => ?_) (fun c2 => ?_)
    · rw [if_pos c2] at hf
      have h1 := Option.some.inj hf
      subst h1
      exact mm_retv F hH hr hlocks dX2_starts_32
    · rw [if_neg c2] at hf
      refine lv_aload_n hx hb dX2_starts_25 rfl (lv_at hl 1 rfl) ?_
      replace hf := b1_i hf
      obtain ⟨q3, e1, hf⟩ := hf
      refine mm_getA F hH mc_2 (k := 7) (by decide) (hts _ q1054) (fun _ h => h) e1 dX2_starts_26 ?_
      refine lv_iload_n hx hb dX2_starts_29 rfl (lv_at hl 0 rfl) ?_
      refine lv_iconst (v := 0) hx hb dX2_starts_30 (by decide) ?_
      replace hf := b1_i hf
      obtain ⟨σ4, e2, hf⟩ := hf
      refine mm_iast F hH e2 dX2_starts_31 (fun H locs hH => ?_)
      have h1 := Option.some.inj hf
      subst h1
      exact mm_retv F hH hr hlocks dX2_starts_32
set_option maxHeartbeats 4000000 in
theorem m_X2_starts (l : Launch) (G : mm_G) (h0 : Nat) (x1 : Int32) (x2 : Int32) (σ : mm_M) (σf : mm_M) (hf : f_X2_starts h0 x1 x2 σ = some σf) : Met l yX2_starts (ws_ yX2_starts cX2_starts 4 ((Option.none : Option Jvm.ClassFile.FieldType))) rm_X2_starts (mm_Pc G [.ref h0, .int x1, .int x2] σ) (mm_Qv G σf) 0 0 (mm_A G) := by
  refine mm_met (by decide) rfl rfl (by  exact Nat.le_of_ble_eq_true rfl) (fun p e s m below meth c ls F hH hr hlocks hname hl => ?_)
  have hl : lv_has ls 4 [(0, .ref h0), (1, .int x1), (2, .int x2)] := by  exact hl
  have F : mm_F p s m _ c RX2 cX2_starts 4 G := F
  have hx := F.1
  have hb := F.2.1
  have hml := F.2.2.1
  have hown := F.2.2.2.1
  have hts := F.2.2.2.2.1
  unfold f_X2_starts at hf
  refine lv_iload_n hx hb dX2_starts_0 rfl (lv_at hl 1 rfl) ?_
  refine lv_iconst (v := (-1)) hx hb dX2_starts_1 (by decide) ?_
  refine lv_icmp_ne (tgt := 9) hx hb dX2_starts_2 (by decide) (fun c1 => ?_) (fun c1 => ?_)
  · rw [if_neg c1] at hf
    refine lv_aload_n hx hb dX2_starts_9 rfl (lv_at hl 0 rfl) ?_
    refine lv_iload_n hx hb dX2_starts_10 rfl (lv_at hl 1 rfl) ?_
    replace hf := b1_i hf
    obtain ⟨u, e1, hf⟩ := hf
    obtain ⟨fs, ek⟩ := ck_i e1
    replace hf := b1_i hf
    obtain ⟨v2, e2, hf⟩ := hf
    refine mm_ci (va_runV (As := [.int x1]) (rest := []) ⟨hx, hb, hml, hown, hts⟩ (m_X2_objectOf l G h0 x1 σ v2 e2) (cwV 1 hts (lw_V q1124 q1126 qs34 q67 q1127) rfl rfl rfl (by decide +kernel) ⟨Nat.le_of_ble_eq_true rfl, Nat.le_of_ble_eq_true rfl⟩) (mm_preV F.2.2.2.2.2 hH (ci := 2) rfl ek) rfl rfl hl.1 rfl (lv_room (Nat.le_of_ble_eq_true rfl)) dX2_starts_11 ⟨Nat.le_of_ble_eq_true rfl, Nat.le_of_ble_eq_true rfl⟩) hH (fun H locs hH => ?_)
    exact w_X2_starts_14 F hr hlocks hname  v2 σ hf hH (lv_sub hl [0, 1, 2] rfl)
  · rw [if_pos c1] at hf
    refine lv_iconst (v := (-1)) hx hb dX2_starts_5 (by decide) ?_
    refine lv_goto (tgt := 14) hx hb dX2_starts_6 (by decide) ?_
    exact w_X2_starts_14 F hr hlocks hname  (-1 : Int32) σ hf hH (lv_sub hl [0, 1, 2] rfl)
/-! IslandHeapModel.reaches(I)V -/
abbrev rm_X2_reaches : Room := { frames := 3, cells := 0, slots := 0, locals := 67 }
set_option maxHeartbeats 4000000 in
theorem w_X2_reaches_2 {p : Program} {l : Launch} {e : Env} {s : State} {m : MethodId} {av : Array Value} {below : List Frame} {meth : Method} {c : Code} {G : mm_G} {σf : mm_M} {n : Nat} {h0 : Nat} {x1 : Int32} (F : mm_F p s m av c RX2 cX2_reaches 7 G) (hr : meth.sig.returnType = (Option.none : Option Jvm.ClassFile.FieldType)) (hlocks : meth.locks = false) (hname : meth.name = yX2_reaches.name) (IH2 : ∀ (x2 : Int32) (σ : mm_M) (H : Heap) (locs : List Loc) (ls : Array Slot), mm_H G s σ H locs → lv_has ls 7 [(0, .ref h0), (1, .int x1), (2, .int x2)] → itn (s_X2_reaches h0 x1) n (.inl (x2, σ)) = some σf → W p l e rm_X2_reaches s m av below meth c H locs 0 0 (MQ below (mm_Qv G σf) av s 0 0 (mm_A G)) (F0 m 2 ls [])) (IH24 : ∀ (x2 : Int32) (σ : mm_M) (H : Heap) (locs : List Loc) (ls : Array Slot), mm_H G s σ H locs → lv_has ls 7 [(0, .ref h0), (1, .int x1), (2, .int x2)] → itn (s_X2_reaches h0 x1) n (.inr (.inl (x2, σ))) = some σf → W p l e rm_X2_reaches s m av below meth c H locs 0 0 (MQ below (mm_Qv G σf) av s 0 0 (mm_A G)) (F0 m 24 ls [])) (IH53 : ∀ (x2 : Int32) (σ : mm_M) (H : Heap) (locs : List Loc) (ls : Array Slot), mm_H G s σ H locs → lv_has ls 7 [(0, .ref h0), (1, .int x1), (2, .int x2)] → itn (s_X2_reaches h0 x1) n (.inr (.inr (.inl (x2, σ)))) = some σf → W p l e rm_X2_reaches s m av below meth c H locs 0 0 (MQ below (mm_Qv G σf) av s 0 0 (mm_A G)) (F0 m 53 ls [])) (IH110 : ∀ (x2 : Int32) (x3 : Int32) (σ : mm_M) (H : Heap) (locs : List Loc) (ls : Array Slot), mm_H G s σ H locs → lv_has ls 7 [(0, .ref h0), (1, .int x1), (2, .int x2), (3, .int x3)] → itn (s_X2_reaches h0 x1) n (.inr (.inr (.inr (.inl (x2, x3, σ))))) = some σf → W p l e rm_X2_reaches s m av below meth c H locs 0 0 (MQ below (mm_Qv G σf) av s 0 0 (mm_A G)) (F0 m 110 ls [])) (IH119 : ∀ (x2 : Int32) (x3 : Int32) (x4 : Int32) (σ : mm_M) (H : Heap) (locs : List Loc) (ls : Array Slot), mm_H G s σ H locs → lv_has ls 7 [(0, .ref h0), (1, .int x1), (2, .int x2), (3, .int x3), (4, .int x4)] → itn (s_X2_reaches h0 x1) n (.inr (.inr (.inr (.inr (.inl (x2, x3, x4, σ)))))) = some σf → W p l e rm_X2_reaches s m av below meth c H locs 0 0 (MQ below (mm_Qv G σf) av s 0 0 (mm_A G)) (F0 m 119 ls [])) (IH135 : ∀ (x2 : Int32) (x3 : Int32) (x4 : Int32) (x5 : Int32) (σ : mm_M) (H : Heap) (locs : List Loc) (ls : Array Slot), mm_H G s σ H locs → lv_has ls 7 [(0, .ref h0), (1, .int x1), (2, .int x2), (3, .int x3), (4, .int x4), (5, .int x5)] → itn (s_X2_reaches h0 x1) n (.inr (.inr (.inr (.inr (.inr (x2, x3, x4, x5, σ)))))) = some σf → W p l e rm_X2_reaches s m av below meth c H locs 0 0 (MQ below (mm_Qv G σf) av s 0 0 (mm_A G)) (F0 m 135 ls []))  (x2 : Int32)  (σ : mm_M) (hf : evn (s_X2_reaches h0 x1) n (g_X2_reaches_2 h0 x1 x2 σ) = some σf) {H : Heap} {locs : List Loc} {ls : Array Slot} (hH : mm_H G s σ H locs) (hl : lv_has ls 7 [(0, .ref h0), (1, .int x1), (2, .int x2)]) : W p l e rm_X2_reaches s m av below meth c H locs 0 0 (MQ below (mm_Qv G σf) av s 0 0 (mm_A G)) (F0 m 2 ls []) := by
  have hx := F.1
  have hb := F.2.1
  have hml := F.2.2.1
  have hown := F.2.2.2.1
  have hts := F.2.2.2.2.1
  unfold g_X2_reaches_2 at hf
  refine lv_iload_n hx hb dX2_reaches_2 rfl (lv_at hl 2 rfl) ?_
  refine lv_sipush (v := 200) hx hb dX2_reaches_3 (by decide) ?_
  refine lv_icmp_ge (tgt := 22) hx hb dX2_reaches_6 (by decide) (fun c1 => ?_) (fun c1 => ?_)
  · rw [if_pos c1] at hf
    refine lv_iconst (v := 0) hx hb dX2_reaches_22 (by decide) ?_
    refine lv_istore_n (lv' := [(2, .int (0 : Int32)), (0, .ref h0), (1, .int x1)]) hx hb dX2_reaches_23 rfl hl (by decide) rfl (fun ls hl => ?_)
    rw [evn_l] at hf
    exact IH24 (0 : Int32) σ _ _ _ hH (lv_sub hl [1, 2, 0] rfl) hf
  · rw [if_neg c1] at hf
    refine lv_aload_n hx hb dX2_reaches_9 rfl (lv_at hl 0 rfl) ?_
    replace hf := evn_b1 hf
    obtain ⟨q2, e1, hf⟩ := hf
    refine mm_getA F hH mc_2 (k := 7) (by decide) (hts _ q1054) (fun _ h => h) e1 dX2_reaches_10 ?_
    refine lv_iload_n hx hb dX2_reaches_13 rfl (lv_at hl 2 rfl) ?_
    refine lv_iconst (v := (-1)) hx hb dX2_reaches_14 (by decide) ?_
    replace hf := evn_b1 hf
    obtain ⟨σ3, e2, hf⟩ := hf
    refine mm_iast F hH e2 dX2_reaches_15 (fun H locs hH => ?_)
    refine lv_iinc (v := x2 + (1 : Int32)) (lv' := [(2, .int (x2 + (1 : Int32))), (0, .ref h0), (1, .int x1)]) hx hb dX2_reaches_16 hl (k := 2) rfl rfl (by decide) rfl (fun ls hl => ?_)
    refine lv_goto (tgt := 2) hx hb dX2_reaches_19 (by decide) ?_
    rw [evn_l] at hf
    exact IH2 (x2 + (1 : Int32)) σ3 _ _ _ hH (lv_sub hl [1, 2, 0] rfl) hf
set_option maxHeartbeats 4000000 in
theorem w_X2_reaches_24 {p : Program} {l : Launch} {e : Env} {s : State} {m : MethodId} {av : Array Value} {below : List Frame} {meth : Method} {c : Code} {G : mm_G} {σf : mm_M} {n : Nat} {h0 : Nat} {x1 : Int32} (F : mm_F p s m av c RX2 cX2_reaches 7 G) (hr : meth.sig.returnType = (Option.none : Option Jvm.ClassFile.FieldType)) (hlocks : meth.locks = false) (hname : meth.name = yX2_reaches.name) (IH2 : ∀ (x2 : Int32) (σ : mm_M) (H : Heap) (locs : List Loc) (ls : Array Slot), mm_H G s σ H locs → lv_has ls 7 [(0, .ref h0), (1, .int x1), (2, .int x2)] → itn (s_X2_reaches h0 x1) n (.inl (x2, σ)) = some σf → W p l e rm_X2_reaches s m av below meth c H locs 0 0 (MQ below (mm_Qv G σf) av s 0 0 (mm_A G)) (F0 m 2 ls [])) (IH24 : ∀ (x2 : Int32) (σ : mm_M) (H : Heap) (locs : List Loc) (ls : Array Slot), mm_H G s σ H locs → lv_has ls 7 [(0, .ref h0), (1, .int x1), (2, .int x2)] → itn (s_X2_reaches h0 x1) n (.inr (.inl (x2, σ))) = some σf → W p l e rm_X2_reaches s m av below meth c H locs 0 0 (MQ below (mm_Qv G σf) av s 0 0 (mm_A G)) (F0 m 24 ls [])) (IH53 : ∀ (x2 : Int32) (σ : mm_M) (H : Heap) (locs : List Loc) (ls : Array Slot), mm_H G s σ H locs → lv_has ls 7 [(0, .ref h0), (1, .int x1), (2, .int x2)] → itn (s_X2_reaches h0 x1) n (.inr (.inr (.inl (x2, σ)))) = some σf → W p l e rm_X2_reaches s m av below meth c H locs 0 0 (MQ below (mm_Qv G σf) av s 0 0 (mm_A G)) (F0 m 53 ls [])) (IH110 : ∀ (x2 : Int32) (x3 : Int32) (σ : mm_M) (H : Heap) (locs : List Loc) (ls : Array Slot), mm_H G s σ H locs → lv_has ls 7 [(0, .ref h0), (1, .int x1), (2, .int x2), (3, .int x3)] → itn (s_X2_reaches h0 x1) n (.inr (.inr (.inr (.inl (x2, x3, σ))))) = some σf → W p l e rm_X2_reaches s m av below meth c H locs 0 0 (MQ below (mm_Qv G σf) av s 0 0 (mm_A G)) (F0 m 110 ls [])) (IH119 : ∀ (x2 : Int32) (x3 : Int32) (x4 : Int32) (σ : mm_M) (H : Heap) (locs : List Loc) (ls : Array Slot), mm_H G s σ H locs → lv_has ls 7 [(0, .ref h0), (1, .int x1), (2, .int x2), (3, .int x3), (4, .int x4)] → itn (s_X2_reaches h0 x1) n (.inr (.inr (.inr (.inr (.inl (x2, x3, x4, σ)))))) = some σf → W p l e rm_X2_reaches s m av below meth c H locs 0 0 (MQ below (mm_Qv G σf) av s 0 0 (mm_A G)) (F0 m 119 ls [])) (IH135 : ∀ (x2 : Int32) (x3 : Int32) (x4 : Int32) (x5 : Int32) (σ : mm_M) (H : Heap) (locs : List Loc) (ls : Array Slot), mm_H G s σ H locs → lv_has ls 7 [(0, .ref h0), (1, .int x1), (2, .int x2), (3, .int x3), (4, .int x4), (5, .int x5)] → itn (s_X2_reaches h0 x1) n (.inr (.inr (.inr (.inr (.inr (x2, x3, x4, x5, σ)))))) = some σf → W p l e rm_X2_reaches s m av below meth c H locs 0 0 (MQ below (mm_Qv G σf) av s 0 0 (mm_A G)) (F0 m 135 ls []))  (x2 : Int32)  (σ : mm_M) (hf : evn (s_X2_reaches h0 x1) n (g_X2_reaches_24 h0 x1 x2 σ) = some σf) {H : Heap} {locs : List Loc} {ls : Array Slot} (hH : mm_H G s σ H locs) (hl : lv_has ls 7 [(0, .ref h0), (1, .int x1), (2, .int x2)]) : W p l e rm_X2_reaches s m av below meth c H locs 0 0 (MQ below (mm_Qv G σf) av s 0 0 (mm_A G)) (F0 m 24 ls []) := by
  have hx := F.1
  have hb := F.2.1
  have hml := F.2.2.1
  have hown := F.2.2.2.1
  have hts := F.2.2.2.2.1
  unfold g_X2_reaches_24 at hf
  refine lv_iload_n hx hb dX2_reaches_24 rfl (lv_at hl 2 rfl) ?_
  refine lv_bipush (v := 6) hx hb dX2_reaches_25 (by decide) ?_
  refine lv_icmp_ge (tgt := 51) hx hb dX2_reaches_27 (by decide) (fun c1 => ?_) (fun c1 => ?_)
  · rw [if_pos c1] at hf
    refine lv_iconst (v := 0) hx hb dX2_reaches_51 (by decide) ?_
    refine lv_istore_n (lv' := [(2, .int (0 : Int32)), (0, .ref h0), (1, .int x1)]) hx hb dX2_reaches_52 rfl hl (by decide) rfl (fun ls hl => ?_)
    rw [evn_l] at hf
    exact IH53 (0 : Int32) σ _ _ _ hH (lv_sub hl [1, 2, 0] rfl) hf
  · rw [if_neg c1] at hf
    refine lv_aload_n hx hb dX2_reaches_30 rfl (lv_at hl 0 rfl) ?_
    refine lv_aload_n hx hb dX2_reaches_31 rfl (lv_at hl 0 rfl) ?_
    replace hf := evn_b1 hf
    obtain ⟨q2, e1, hf⟩ := hf
    refine mm_getA F hH mc_2 (k := 0) (by decide) (hts _ q1047) (fun _ h => h) e1 dX2_reaches_32 ?_
    refine lv_sipush (v := 1200) hx hb dX2_reaches_35 (by decide) ?_
    refine lv_iload_n hx hb dX2_reaches_38 rfl (lv_at hl 2 rfl) ?_
    refine lv_iadd hx hb dX2_reaches_39 ?_
    replace hf := evn_b1 hf
    obtain ⟨v3, e2, hf⟩ := hf
    refine mm_iald F hH e2 dX2_reaches_40 ?_
    refine lv_iload_n hx hb dX2_reaches_41 rfl (lv_at hl 1 rfl) ?_
    replace hf := evn_b1 hf
    obtain ⟨u, e3, hf⟩ := hf
    obtain ⟨fs, ek⟩ := ck_i e3
    replace hf := evn_b1 hf
    obtain ⟨σ4, e4, hf⟩ := hf
    refine mm_cv (va_runV (As := [.int v3, .int x1]) (rest := []) ⟨hx, hb, hml, hown, hts⟩ (m_X2_starts l G h0 v3 x1 σ σ4 e4) (cwV 2 hts (lw_V q1140 q1142 qs38 q67 q1143) rfl rfl rfl (by decide +kernel) ⟨Nat.le_of_ble_eq_true rfl, Nat.le_of_ble_eq_true rfl⟩) (mm_preV F.2.2.2.2.2 hH (ci := 2) rfl ek) rfl rfl hl.1 rfl (lv_room (Nat.le_of_ble_eq_true rfl)) dX2_reaches_42 ⟨Nat.le_of_ble_eq_true rfl, Nat.le_of_ble_eq_true rfl⟩) hH (fun H locs hH => ?_)
    refine lv_iinc (v := x2 + (1 : Int32)) (lv' := [(2, .int (x2 + (1 : Int32))), (0, .ref h0), (1, .int x1)]) hx hb dX2_reaches_45 hl (k := 2) rfl rfl (by decide) rfl (fun ls hl => ?_)
    refine lv_goto (tgt := 24) hx hb dX2_reaches_48 (by decide) ?_
    rw [evn_l] at hf
    exact IH24 (x2 + (1 : Int32)) σ4 _ _ _ hH (lv_sub hl [1, 2, 0] rfl) hf
set_option maxHeartbeats 4000000 in
theorem w_X2_reaches_53 {p : Program} {l : Launch} {e : Env} {s : State} {m : MethodId} {av : Array Value} {below : List Frame} {meth : Method} {c : Code} {G : mm_G} {σf : mm_M} {n : Nat} {h0 : Nat} {x1 : Int32} (F : mm_F p s m av c RX2 cX2_reaches 7 G) (hr : meth.sig.returnType = (Option.none : Option Jvm.ClassFile.FieldType)) (hlocks : meth.locks = false) (hname : meth.name = yX2_reaches.name) (IH2 : ∀ (x2 : Int32) (σ : mm_M) (H : Heap) (locs : List Loc) (ls : Array Slot), mm_H G s σ H locs → lv_has ls 7 [(0, .ref h0), (1, .int x1), (2, .int x2)] → itn (s_X2_reaches h0 x1) n (.inl (x2, σ)) = some σf → W p l e rm_X2_reaches s m av below meth c H locs 0 0 (MQ below (mm_Qv G σf) av s 0 0 (mm_A G)) (F0 m 2 ls [])) (IH24 : ∀ (x2 : Int32) (σ : mm_M) (H : Heap) (locs : List Loc) (ls : Array Slot), mm_H G s σ H locs → lv_has ls 7 [(0, .ref h0), (1, .int x1), (2, .int x2)] → itn (s_X2_reaches h0 x1) n (.inr (.inl (x2, σ))) = some σf → W p l e rm_X2_reaches s m av below meth c H locs 0 0 (MQ below (mm_Qv G σf) av s 0 0 (mm_A G)) (F0 m 24 ls [])) (IH53 : ∀ (x2 : Int32) (σ : mm_M) (H : Heap) (locs : List Loc) (ls : Array Slot), mm_H G s σ H locs → lv_has ls 7 [(0, .ref h0), (1, .int x1), (2, .int x2)] → itn (s_X2_reaches h0 x1) n (.inr (.inr (.inl (x2, σ)))) = some σf → W p l e rm_X2_reaches s m av below meth c H locs 0 0 (MQ below (mm_Qv G σf) av s 0 0 (mm_A G)) (F0 m 53 ls [])) (IH110 : ∀ (x2 : Int32) (x3 : Int32) (σ : mm_M) (H : Heap) (locs : List Loc) (ls : Array Slot), mm_H G s σ H locs → lv_has ls 7 [(0, .ref h0), (1, .int x1), (2, .int x2), (3, .int x3)] → itn (s_X2_reaches h0 x1) n (.inr (.inr (.inr (.inl (x2, x3, σ))))) = some σf → W p l e rm_X2_reaches s m av below meth c H locs 0 0 (MQ below (mm_Qv G σf) av s 0 0 (mm_A G)) (F0 m 110 ls [])) (IH119 : ∀ (x2 : Int32) (x3 : Int32) (x4 : Int32) (σ : mm_M) (H : Heap) (locs : List Loc) (ls : Array Slot), mm_H G s σ H locs → lv_has ls 7 [(0, .ref h0), (1, .int x1), (2, .int x2), (3, .int x3), (4, .int x4)] → itn (s_X2_reaches h0 x1) n (.inr (.inr (.inr (.inr (.inl (x2, x3, x4, σ)))))) = some σf → W p l e rm_X2_reaches s m av below meth c H locs 0 0 (MQ below (mm_Qv G σf) av s 0 0 (mm_A G)) (F0 m 119 ls [])) (IH135 : ∀ (x2 : Int32) (x3 : Int32) (x4 : Int32) (x5 : Int32) (σ : mm_M) (H : Heap) (locs : List Loc) (ls : Array Slot), mm_H G s σ H locs → lv_has ls 7 [(0, .ref h0), (1, .int x1), (2, .int x2), (3, .int x3), (4, .int x4), (5, .int x5)] → itn (s_X2_reaches h0 x1) n (.inr (.inr (.inr (.inr (.inr (x2, x3, x4, x5, σ)))))) = some σf → W p l e rm_X2_reaches s m av below meth c H locs 0 0 (MQ below (mm_Qv G σf) av s 0 0 (mm_A G)) (F0 m 135 ls []))  (x2 : Int32)  (σ : mm_M) (hf : evn (s_X2_reaches h0 x1) n (g_X2_reaches_53 h0 x1 x2 σ) = some σf) {H : Heap} {locs : List Loc} {ls : Array Slot} (hH : mm_H G s σ H locs) (hl : lv_has ls 7 [(0, .ref h0), (1, .int x1), (2, .int x2)]) : W p l e rm_X2_reaches s m av below meth c H locs 0 0 (MQ below (mm_Qv G σf) av s 0 0 (mm_A G)) (F0 m 53 ls []) := by
  have hx := F.1
  have hb := F.2.1
  have hml := F.2.2.1
  have hown := F.2.2.2.1
  have hts := F.2.2.2.2.1
  unfold g_X2_reaches_53 at hf
  refine lv_iload_n hx hb dX2_reaches_53 rfl (lv_at hl 2 rfl) ?_
  refine lv_aload_n hx hb dX2_reaches_54 rfl (lv_at hl 0 rfl) ?_
  replace hf := evn_b1 hf
  obtain ⟨q1, e1, hf⟩ := hf
  refine mm_getA F hH mc_2 (k := 0) (by decide) (hts _ q1047) (fun _ h => h) e1 dX2_reaches_55 ?_
  refine lv_sipush (v := 1216) hx hb dX2_reaches_58 (by decide) ?_
  replace hf := evn_b1 hf
  obtain ⟨v2, e2, hf⟩ := hf
  refine mm_iald F hH e2 dX2_reaches_61 ?_
  refine lv_icmp_ge (tgt := 106) hx hb dX2_reaches_62 (by decide) (fun c3 => ?_) (fun c3 => ?_)
  · rw [if_pos c3] at hf
    refine lv_iconst (v := 1) hx hb dX2_reaches_106 (by decide) ?_
    refine lv_istore_n (lv' := [(2, .int (1 : Int32)), (0, .ref h0), (1, .int x1)]) hx hb dX2_reaches_107 rfl hl (by decide) rfl (fun ls hl => ?_)
    refine lv_iconst (v := 0) hx hb dX2_reaches_108 (by decide) ?_
    refine lv_istore_n (lv' := [(3, .int (0 : Int32)), (2, .int (1 : Int32)), (0, .ref h0), (1, .int x1)]) hx hb dX2_reaches_109 rfl hl (by decide) rfl (fun ls hl => ?_)
    rw [evn_l] at hf
    exact IH110 (1 : Int32) (0 : Int32) σ _ _ _ hH (lv_sub hl [2, 3, 1, 0] rfl) hf
  · rw [if_neg c3] at hf
    refine lv_aload_n hx hb dX2_reaches_65 rfl (lv_at hl 0 rfl) ?_
    refine lv_aload_n hx hb dX2_reaches_66 rfl (lv_at hl 0 rfl) ?_
    replace hf := evn_b1 hf
    obtain ⟨q4, e3, hf⟩ := hf
    refine mm_getA F hH mc_2 (k := 0) (by decide) (hts _ q1047) (fun _ h => h) e3 dX2_reaches_67 ?_
    refine lv_iconst (v := 0) hx hb dX2_reaches_70 (by decide) ?_
    refine lv_iload_n hx hb dX2_reaches_71 rfl (lv_at hl 2 rfl) ?_
    refine lv_iadd hx hb dX2_reaches_72 ?_
    replace hf := evn_b1 hf
    obtain ⟨v5, e4, hf⟩ := hf
    refine mm_iald F hH e4 dX2_reaches_73 ?_
    refine lv_if_le (tgt := 95) hx hb dX2_reaches_74 (by decide) (fun c6 => ?_) (fun c6 => ?_)
    · rw [if_pos c6] at hf
      refine lv_iconst (v := (-1)) hx hb dX2_reaches_95 (by decide) ?_
      refine lv_iload_n hx hb dX2_reaches_96 rfl (lv_at hl 1 rfl) ?_
      replace hf := evn_b1 hf
      obtain ⟨u, e5, hf⟩ := hf
      obtain ⟨fs, ek⟩ := ck_i e5
      replace hf := evn_b1 hf
      obtain ⟨σ7, e6, hf⟩ := hf
      refine mm_cv (va_runV (As := [.int (-1 : Int32), .int x1]) (rest := []) ⟨hx, hb, hml, hown, hts⟩ (m_X2_starts l G h0 (-1 : Int32) x1 σ σ7 e6) (cwV 2 hts (lw_V q1140 q1142 qs38 q67 q1143) rfl rfl rfl (by decide +kernel) ⟨Nat.le_of_ble_eq_true rfl, Nat.le_of_ble_eq_true rfl⟩) (mm_preV F.2.2.2.2.2 hH (ci := 2) rfl ek) rfl rfl hl.1 rfl (lv_room (Nat.le_of_ble_eq_true rfl)) dX2_reaches_97 ⟨Nat.le_of_ble_eq_true rfl, Nat.le_of_ble_eq_true rfl⟩) hH (fun H locs hH => ?_)
      refine lv_iinc (v := x2 + (1 : Int32)) (lv' := [(2, .int (x2 + (1 : Int32))), (0, .ref h0), (1, .int x1)]) hx hb dX2_reaches_100 hl (k := 2) rfl rfl (by decide) rfl (fun ls hl => ?_)
      refine lv_goto (tgt := 53) hx hb dX2_reaches_103 (by decide) ?_
      rw [evn_l] at hf
      exact IH53 (x2 + (1 : Int32)) σ7 _ _ _ hH (lv_sub hl [1, 2, 0] rfl) hf
    · rw [if_neg c6] at hf
      refine lv_aload_n hx hb dX2_reaches_77 rfl (lv_at hl 0 rfl) ?_
      replace hf := evn_b1 hf
      obtain ⟨q8, e7, hf⟩ := hf
      refine mm_getA F hH mc_2 (k := 0) (by decide) (hts _ q1047) (fun _ h => h) e7 dX2_reaches_78 ?_
      refine lv_sipush (v := 400) hx hb dX2_reaches_81 (by decide) ?_
      refine lv_iload_n hx hb dX2_reaches_84 rfl (lv_at hl 2 rfl) ?_
      refine lv_iadd hx hb dX2_reaches_85 ?_
      replace hf := evn_b1 hf
      obtain ⟨v9, e8, hf⟩ := hf
      refine mm_iald F hH e8 dX2_reaches_86 ?_
      refine lv_iconst (v := 1) hx hb dX2_reaches_87 (by decide) ?_
      refine lv_icmp_ne (tgt := 95) hx hb dX2_reaches_88 (by decide) (fun c10 => ?_) (fun c10 => ?_)
      · rw [if_neg c10] at hf
        refine lv_iconst (v := (-1)) hx hb dX2_reaches_95 (by decide) ?_
        refine lv_iload_n hx hb dX2_reaches_96 rfl (lv_at hl 1 rfl) ?_
        replace hf := evn_b1 hf
        obtain ⟨u, e9, hf⟩ := hf
        obtain ⟨fs, ek⟩ := ck_i e9
        replace hf := evn_b1 hf
        obtain ⟨σ11, e10, hf⟩ := hf
        refine mm_cv (va_runV (As := [.int (-1 : Int32), .int x1]) (rest := []) ⟨hx, hb, hml, hown, hts⟩ (m_X2_starts l G h0 (-1 : Int32) x1 σ σ11 e10) (cwV 2 hts (lw_V q1140 q1142 qs38 q67 q1143) rfl rfl rfl (by decide +kernel) ⟨Nat.le_of_ble_eq_true rfl, Nat.le_of_ble_eq_true rfl⟩) (mm_preV F.2.2.2.2.2 hH (ci := 2) rfl ek) rfl rfl hl.1 rfl (lv_room (Nat.le_of_ble_eq_true rfl)) dX2_reaches_97 ⟨Nat.le_of_ble_eq_true rfl, Nat.le_of_ble_eq_true rfl⟩) hH (fun H locs hH => ?_)
        refine lv_iinc (v := x2 + (1 : Int32)) (lv' := [(2, .int (x2 + (1 : Int32))), (0, .ref h0), (1, .int x1)]) hx hb dX2_reaches_100 hl (k := 2) rfl rfl (by decide) rfl (fun ls hl => ?_)
        refine lv_goto (tgt := 53) hx hb dX2_reaches_103 (by decide) ?_
        rw [evn_l] at hf
        exact IH53 (x2 + (1 : Int32)) σ11 _ _ _ hH (lv_sub hl [1, 2, 0] rfl) hf
      · rw [if_pos c10] at hf
        refine lv_iload_n hx hb dX2_reaches_91 rfl (lv_at hl 2 rfl) ?_
        refine lv_goto (tgt := 96) hx hb dX2_reaches_92 (by decide) ?_
        refine lv_iload_n hx hb dX2_reaches_96 rfl (lv_at hl 1 rfl) ?_
        replace hf := evn_b1 hf
        obtain ⟨u, e11, hf⟩ := hf
        obtain ⟨fs, ek⟩ := ck_i e11
        replace hf := evn_b1 hf
        obtain ⟨σ12, e12, hf⟩ := hf
        refine mm_cv (va_runV (As := [.int x2, .int x1]) (rest := []) ⟨hx, hb, hml, hown, hts⟩ (m_X2_starts l G h0 x2 x1 σ σ12 e12) (cwV 2 hts (lw_V q1140 q1142 qs38 q67 q1143) rfl rfl rfl (by decide +kernel) ⟨Nat.le_of_ble_eq_true rfl, Nat.le_of_ble_eq_true rfl⟩) (mm_preV F.2.2.2.2.2 hH (ci := 2) rfl ek) rfl rfl hl.1 rfl (lv_room (Nat.le_of_ble_eq_true rfl)) dX2_reaches_97 ⟨Nat.le_of_ble_eq_true rfl, Nat.le_of_ble_eq_true rfl⟩) hH (fun H locs hH => ?_)
        refine lv_iinc (v := x2 + (1 : Int32)) (lv' := [(2, .int (x2 + (1 : Int32))), (0, .ref h0), (1, .int x1)]) hx hb dX2_reaches_100 hl (k := 2) rfl rfl (by decide) rfl (fun ls hl => ?_)
        refine lv_goto (tgt := 53) hx hb dX2_reaches_103 (by decide) ?_
        rw [evn_l] at hf
        exact IH53 (x2 + (1 : Int32)) σ12 _ _ _ hH (lv_sub hl [1, 2, 0] rfl) hf
set_option maxHeartbeats 4000000 in
theorem w_X2_reaches_110 {p : Program} {l : Launch} {e : Env} {s : State} {m : MethodId} {av : Array Value} {below : List Frame} {meth : Method} {c : Code} {G : mm_G} {σf : mm_M} {n : Nat} {h0 : Nat} {x1 : Int32} (F : mm_F p s m av c RX2 cX2_reaches 7 G) (hr : meth.sig.returnType = (Option.none : Option Jvm.ClassFile.FieldType)) (hlocks : meth.locks = false) (hname : meth.name = yX2_reaches.name) (IH2 : ∀ (x2 : Int32) (σ : mm_M) (H : Heap) (locs : List Loc) (ls : Array Slot), mm_H G s σ H locs → lv_has ls 7 [(0, .ref h0), (1, .int x1), (2, .int x2)] → itn (s_X2_reaches h0 x1) n (.inl (x2, σ)) = some σf → W p l e rm_X2_reaches s m av below meth c H locs 0 0 (MQ below (mm_Qv G σf) av s 0 0 (mm_A G)) (F0 m 2 ls [])) (IH24 : ∀ (x2 : Int32) (σ : mm_M) (H : Heap) (locs : List Loc) (ls : Array Slot), mm_H G s σ H locs → lv_has ls 7 [(0, .ref h0), (1, .int x1), (2, .int x2)] → itn (s_X2_reaches h0 x1) n (.inr (.inl (x2, σ))) = some σf → W p l e rm_X2_reaches s m av below meth c H locs 0 0 (MQ below (mm_Qv G σf) av s 0 0 (mm_A G)) (F0 m 24 ls [])) (IH53 : ∀ (x2 : Int32) (σ : mm_M) (H : Heap) (locs : List Loc) (ls : Array Slot), mm_H G s σ H locs → lv_has ls 7 [(0, .ref h0), (1, .int x1), (2, .int x2)] → itn (s_X2_reaches h0 x1) n (.inr (.inr (.inl (x2, σ)))) = some σf → W p l e rm_X2_reaches s m av below meth c H locs 0 0 (MQ below (mm_Qv G σf) av s 0 0 (mm_A G)) (F0 m 53 ls [])) (IH110 : ∀ (x2 : Int32) (x3 : Int32) (σ : mm_M) (H : Heap) (locs : List Loc) (ls : Array Slot), mm_H G s σ H locs → lv_has ls 7 [(0, .ref h0), (1, .int x1), (2, .int x2), (3, .int x3)] → itn (s_X2_reaches h0 x1) n (.inr (.inr (.inr (.inl (x2, x3, σ))))) = some σf → W p l e rm_X2_reaches s m av below meth c H locs 0 0 (MQ below (mm_Qv G σf) av s 0 0 (mm_A G)) (F0 m 110 ls [])) (IH119 : ∀ (x2 : Int32) (x3 : Int32) (x4 : Int32) (σ : mm_M) (H : Heap) (locs : List Loc) (ls : Array Slot), mm_H G s σ H locs → lv_has ls 7 [(0, .ref h0), (1, .int x1), (2, .int x2), (3, .int x3), (4, .int x4)] → itn (s_X2_reaches h0 x1) n (.inr (.inr (.inr (.inr (.inl (x2, x3, x4, σ)))))) = some σf → W p l e rm_X2_reaches s m av below meth c H locs 0 0 (MQ below (mm_Qv G σf) av s 0 0 (mm_A G)) (F0 m 119 ls [])) (IH135 : ∀ (x2 : Int32) (x3 : Int32) (x4 : Int32) (x5 : Int32) (σ : mm_M) (H : Heap) (locs : List Loc) (ls : Array Slot), mm_H G s σ H locs → lv_has ls 7 [(0, .ref h0), (1, .int x1), (2, .int x2), (3, .int x3), (4, .int x4), (5, .int x5)] → itn (s_X2_reaches h0 x1) n (.inr (.inr (.inr (.inr (.inr (x2, x3, x4, x5, σ)))))) = some σf → W p l e rm_X2_reaches s m av below meth c H locs 0 0 (MQ below (mm_Qv G σf) av s 0 0 (mm_A G)) (F0 m 135 ls []))  (x2 : Int32) (x3 : Int32)  (σ : mm_M) (hf : evn (s_X2_reaches h0 x1) n (g_X2_reaches_110 h0 x1 x2 x3 σ) = some σf) {H : Heap} {locs : List Loc} {ls : Array Slot} (hH : mm_H G s σ H locs) (hl : lv_has ls 7 [(0, .ref h0), (1, .int x1), (2, .int x2), (3, .int x3)]) : W p l e rm_X2_reaches s m av below meth c H locs 0 0 (MQ below (mm_Qv G σf) av s 0 0 (mm_A G)) (F0 m 110 ls []) := by
  have hx := F.1
  have hb := F.2.1
  have hml := F.2.2.1
  have hown := F.2.2.2.1
  have hts := F.2.2.2.2.1
  unfold g_X2_reaches_110 at hf
  refine lv_iload_n hx hb dX2_reaches_110 rfl (lv_at hl 2 rfl) ?_
  refine lv_if_eq (tgt := 269) hx hb dX2_reaches_111 (by decide) (fun c1 => ?_) (fun c1 => ?_)
  · rw [if_pos c1] at hf
    rw [evn_r] at hf
    have h1 := Option.some.inj hf
    subst h1
    exact mm_retv F hH hr hlocks dX2_reaches_269
  · rw [if_neg c1] at hf
    refine lv_iconst (v := 0) hx hb dX2_reaches_114 (by decide) ?_
    refine lv_istore_n (lv' := [(2, .int (0 : Int32)), (0, .ref h0), (1, .int x1), (3, .int x3)]) hx hb dX2_reaches_115 rfl hl (by decide) rfl (fun ls hl => ?_)
    refine lv_iconst (v := 0) hx hb dX2_reaches_116 (by decide) ?_
    refine lv_istore (lv' := [(4, .int (0 : Int32)), (2, .int (0 : Int32)), (0, .ref h0), (1, .int x1), (3, .int x3)]) hx hb dX2_reaches_117 hl (by decide) rfl (fun ls hl => ?_)
    rw [evn_l] at hf
    exact IH119 (0 : Int32) x3 (0 : Int32) σ _ _ _ hH (lv_sub hl [2, 3, 1, 4, 0] rfl) hf
set_option maxHeartbeats 4000000 in
theorem w_X2_reaches_119 {p : Program} {l : Launch} {e : Env} {s : State} {m : MethodId} {av : Array Value} {below : List Frame} {meth : Method} {c : Code} {G : mm_G} {σf : mm_M} {n : Nat} {h0 : Nat} {x1 : Int32} (F : mm_F p s m av c RX2 cX2_reaches 7 G) (hr : meth.sig.returnType = (Option.none : Option Jvm.ClassFile.FieldType)) (hlocks : meth.locks = false) (hname : meth.name = yX2_reaches.name) (IH2 : ∀ (x2 : Int32) (σ : mm_M) (H : Heap) (locs : List Loc) (ls : Array Slot), mm_H G s σ H locs → lv_has ls 7 [(0, .ref h0), (1, .int x1), (2, .int x2)] → itn (s_X2_reaches h0 x1) n (.inl (x2, σ)) = some σf → W p l e rm_X2_reaches s m av below meth c H locs 0 0 (MQ below (mm_Qv G σf) av s 0 0 (mm_A G)) (F0 m 2 ls [])) (IH24 : ∀ (x2 : Int32) (σ : mm_M) (H : Heap) (locs : List Loc) (ls : Array Slot), mm_H G s σ H locs → lv_has ls 7 [(0, .ref h0), (1, .int x1), (2, .int x2)] → itn (s_X2_reaches h0 x1) n (.inr (.inl (x2, σ))) = some σf → W p l e rm_X2_reaches s m av below meth c H locs 0 0 (MQ below (mm_Qv G σf) av s 0 0 (mm_A G)) (F0 m 24 ls [])) (IH53 : ∀ (x2 : Int32) (σ : mm_M) (H : Heap) (locs : List Loc) (ls : Array Slot), mm_H G s σ H locs → lv_has ls 7 [(0, .ref h0), (1, .int x1), (2, .int x2)] → itn (s_X2_reaches h0 x1) n (.inr (.inr (.inl (x2, σ)))) = some σf → W p l e rm_X2_reaches s m av below meth c H locs 0 0 (MQ below (mm_Qv G σf) av s 0 0 (mm_A G)) (F0 m 53 ls [])) (IH110 : ∀ (x2 : Int32) (x3 : Int32) (σ : mm_M) (H : Heap) (locs : List Loc) (ls : Array Slot), mm_H G s σ H locs → lv_has ls 7 [(0, .ref h0), (1, .int x1), (2, .int x2), (3, .int x3)] → itn (s_X2_reaches h0 x1) n (.inr (.inr (.inr (.inl (x2, x3, σ))))) = some σf → W p l e rm_X2_reaches s m av below meth c H locs 0 0 (MQ below (mm_Qv G σf) av s 0 0 (mm_A G)) (F0 m 110 ls [])) (IH119 : ∀ (x2 : Int32) (x3 : Int32) (x4 : Int32) (σ : mm_M) (H : Heap) (locs : List Loc) (ls : Array Slot), mm_H G s σ H locs → lv_has ls 7 [(0, .ref h0), (1, .int x1), (2, .int x2), (3, .int x3), (4, .int x4)] → itn (s_X2_reaches h0 x1) n (.inr (.inr (.inr (.inr (.inl (x2, x3, x4, σ)))))) = some σf → W p l e rm_X2_reaches s m av below meth c H locs 0 0 (MQ below (mm_Qv G σf) av s 0 0 (mm_A G)) (F0 m 119 ls [])) (IH135 : ∀ (x2 : Int32) (x3 : Int32) (x4 : Int32) (x5 : Int32) (σ : mm_M) (H : Heap) (locs : List Loc) (ls : Array Slot), mm_H G s σ H locs → lv_has ls 7 [(0, .ref h0), (1, .int x1), (2, .int x2), (3, .int x3), (4, .int x4), (5, .int x5)] → itn (s_X2_reaches h0 x1) n (.inr (.inr (.inr (.inr (.inr (x2, x3, x4, x5, σ)))))) = some σf → W p l e rm_X2_reaches s m av below meth c H locs 0 0 (MQ below (mm_Qv G σf) av s 0 0 (mm_A G)) (F0 m 135 ls []))  (x2 : Int32) (x3 : Int32) (x4 : Int32)  (σ : mm_M) (hf : evn (s_X2_reaches h0 x1) n (g_X2_reaches_119 h0 x1 x2 x3 x4 σ) = some σf) {H : Heap} {locs : List Loc} {ls : Array Slot} (hH : mm_H G s σ H locs) (hl : lv_has ls 7 [(0, .ref h0), (1, .int x1), (2, .int x2), (3, .int x3), (4, .int x4)]) : W p l e rm_X2_reaches s m av below meth c H locs 0 0 (MQ below (mm_Qv G σf) av s 0 0 (mm_A G)) (F0 m 119 ls []) := by
  have hx := F.1
  have hb := F.2.1
  have hml := F.2.2.1
  have hown := F.2.2.2.1
  have hts := F.2.2.2.2.1
  unfold g_X2_reaches_119 at hf
  refine lv_iload hx hb dX2_reaches_119 (lv_at hl 4 rfl) ?_
  refine lv_aload_n hx hb dX2_reaches_121 rfl (lv_at hl 0 rfl) ?_
  replace hf := evn_b1 hf
  obtain ⟨q1, e1, hf⟩ := hf
  refine mm_getA F hH mc_2 (k := 0) (by decide) (hts _ q1047) (fun _ h => h) e1 dX2_reaches_122 ?_
  refine lv_sipush (v := 1216) hx hb dX2_reaches_125 (by decide) ?_
  replace hf := evn_b1 hf
  obtain ⟨v2, e2, hf⟩ := hf
  refine mm_iald F hH e2 dX2_reaches_128 ?_
  refine lv_icmp_ge (tgt := 263) hx hb dX2_reaches_129 (by decide) (fun c3 => ?_) (fun c3 => ?_)
  · rw [if_pos c3] at hf
    refine lv_iinc (v := x3 + (1 : Int32)) (lv' := [(3, .int (x3 + (1 : Int32))), (0, .ref h0), (1, .int x1), (2, .int x2), (4, .int x4)]) hx hb dX2_reaches_263 hl (k := 3) rfl rfl (by decide) rfl (fun ls hl => ?_)
    refine lv_goto (tgt := 110) hx hb dX2_reaches_266 (by decide) ?_
    rw [evn_l] at hf
    exact IH110 x2 (x3 + (1 : Int32)) σ _ _ _ hH (lv_sub hl [1, 2, 3, 0] rfl) hf
  · rw [if_neg c3] at hf
    refine lv_iconst (v := 1) hx hb dX2_reaches_132 (by decide) ?_
    refine lv_istore (lv' := [(5, .int (1 : Int32)), (0, .ref h0), (1, .int x1), (2, .int x2), (3, .int x3), (4, .int x4)]) hx hb dX2_reaches_133 hl (by decide) rfl (fun ls hl => ?_)
    rw [evn_l] at hf
    exact IH135 x2 x3 x4 (1 : Int32) σ _ _ _ hH (lv_sub hl [1, 2, 3, 4, 5, 0] rfl) hf
set_option maxHeartbeats 4000000 in
theorem w_X2_reaches_214 {p : Program} {l : Launch} {e : Env} {s : State} {m : MethodId} {av : Array Value} {below : List Frame} {meth : Method} {c : Code} {G : mm_G} {σf : mm_M} {n : Nat} {h0 : Nat} {x1 : Int32} (F : mm_F p s m av c RX2 cX2_reaches 7 G) (hr : meth.sig.returnType = (Option.none : Option Jvm.ClassFile.FieldType)) (hlocks : meth.locks = false) (hname : meth.name = yX2_reaches.name) (IH2 : ∀ (x2 : Int32) (σ : mm_M) (H : Heap) (locs : List Loc) (ls : Array Slot), mm_H G s σ H locs → lv_has ls 7 [(0, .ref h0), (1, .int x1), (2, .int x2)] → itn (s_X2_reaches h0 x1) n (.inl (x2, σ)) = some σf → W p l e rm_X2_reaches s m av below meth c H locs 0 0 (MQ below (mm_Qv G σf) av s 0 0 (mm_A G)) (F0 m 2 ls [])) (IH24 : ∀ (x2 : Int32) (σ : mm_M) (H : Heap) (locs : List Loc) (ls : Array Slot), mm_H G s σ H locs → lv_has ls 7 [(0, .ref h0), (1, .int x1), (2, .int x2)] → itn (s_X2_reaches h0 x1) n (.inr (.inl (x2, σ))) = some σf → W p l e rm_X2_reaches s m av below meth c H locs 0 0 (MQ below (mm_Qv G σf) av s 0 0 (mm_A G)) (F0 m 24 ls [])) (IH53 : ∀ (x2 : Int32) (σ : mm_M) (H : Heap) (locs : List Loc) (ls : Array Slot), mm_H G s σ H locs → lv_has ls 7 [(0, .ref h0), (1, .int x1), (2, .int x2)] → itn (s_X2_reaches h0 x1) n (.inr (.inr (.inl (x2, σ)))) = some σf → W p l e rm_X2_reaches s m av below meth c H locs 0 0 (MQ below (mm_Qv G σf) av s 0 0 (mm_A G)) (F0 m 53 ls [])) (IH110 : ∀ (x2 : Int32) (x3 : Int32) (σ : mm_M) (H : Heap) (locs : List Loc) (ls : Array Slot), mm_H G s σ H locs → lv_has ls 7 [(0, .ref h0), (1, .int x1), (2, .int x2), (3, .int x3)] → itn (s_X2_reaches h0 x1) n (.inr (.inr (.inr (.inl (x2, x3, σ))))) = some σf → W p l e rm_X2_reaches s m av below meth c H locs 0 0 (MQ below (mm_Qv G σf) av s 0 0 (mm_A G)) (F0 m 110 ls [])) (IH119 : ∀ (x2 : Int32) (x3 : Int32) (x4 : Int32) (σ : mm_M) (H : Heap) (locs : List Loc) (ls : Array Slot), mm_H G s σ H locs → lv_has ls 7 [(0, .ref h0), (1, .int x1), (2, .int x2), (3, .int x3), (4, .int x4)] → itn (s_X2_reaches h0 x1) n (.inr (.inr (.inr (.inr (.inl (x2, x3, x4, σ)))))) = some σf → W p l e rm_X2_reaches s m av below meth c H locs 0 0 (MQ below (mm_Qv G σf) av s 0 0 (mm_A G)) (F0 m 119 ls [])) (IH135 : ∀ (x2 : Int32) (x3 : Int32) (x4 : Int32) (x5 : Int32) (σ : mm_M) (H : Heap) (locs : List Loc) (ls : Array Slot), mm_H G s σ H locs → lv_has ls 7 [(0, .ref h0), (1, .int x1), (2, .int x2), (3, .int x3), (4, .int x4), (5, .int x5)] → itn (s_X2_reaches h0 x1) n (.inr (.inr (.inr (.inr (.inr (x2, x3, x4, x5, σ)))))) = some σf → W p l e rm_X2_reaches s m av below meth c H locs 0 0 (MQ below (mm_Qv G σf) av s 0 0 (mm_A G)) (F0 m 135 ls []))  (x2 : Int32) (x3 : Int32) (x4 : Int32) (x5 : Int32) (t0 : Int32) (σ : mm_M) (hf : evn (s_X2_reaches h0 x1) n (g_X2_reaches_214 h0 x1 x2 x3 x4 x5 t0 σ) = some σf) {H : Heap} {locs : List Loc} {ls : Array Slot} (hH : mm_H G s σ H locs) (hl : lv_has ls 7 [(0, .ref h0), (1, .int x1), (2, .int x2), (3, .int x3), (4, .int x4), (5, .int x5)]) : W p l e rm_X2_reaches s m av below meth c H locs 0 0 (MQ below (mm_Qv G σf) av s 0 0 (mm_A G)) (F0 m 214 ls [.int t0]) := by
  have hx := F.1
  have hb := F.2.1
  have hml := F.2.2.1
  have hown := F.2.2.2.1
  have hts := F.2.2.2.2.1
  unfold g_X2_reaches_214 at hf
  refine lv_istore (lv' := [(6, .int t0), (0, .ref h0), (1, .int x1), (2, .int x2), (3, .int x3), (4, .int x4), (5, .int x5)]) hx hb dX2_reaches_214 hl (by decide) rfl (fun ls hl => ?_)
  refine lv_iload hx hb dX2_reaches_216 (lv_at hl 0 rfl) ?_
  refine lv_iconst (v := (-1)) hx hb dX2_reaches_218 (by decide) ?_
  refine lv_icmp_eq (tgt := 251) hx hb dX2_reaches_219 (by decide) (fun c1 => ?_) (fun c1 => ?_)
  · rw [if_pos c1] at hf
    refine lv_iinc (v := x5 + (1 : Int32)) (lv' := [(5, .int (x5 + (1 : Int32))), (6, .int t0), (0, .ref h0), (1, .int x1), (2, .int x2), (3, .int x3), (4, .int x4)]) hx hb dX2_reaches_251 hl (k := 6) rfl rfl (by decide) rfl (fun ls hl => ?_)
    refine lv_goto (tgt := 135) hx hb dX2_reaches_254 (by decide) ?_
    rw [evn_l] at hf
    exact IH135 x2 x3 x4 (x5 + (1 : Int32)) σ _ _ _ hH (lv_sub hl [2, 3, 4, 5, 6, 0] rfl) hf
  · rw [if_neg c1] at hf
    refine lv_iload hx hb dX2_reaches_222 (lv_at hl 0 rfl) ?_
    refine lv_iload_n hx hb dX2_reaches_224 rfl (lv_at hl 2 rfl) ?_
    refine lv_icmp_eq (tgt := 251) hx hb dX2_reaches_225 (by decide) (fun c2 => ?_) (fun c2 => ?_)
    · rw [if_pos c2] at hf
      refine lv_iinc (v := x5 + (1 : Int32)) (lv' := [(5, .int (x5 + (1 : Int32))), (6, .int t0), (0, .ref h0), (1, .int x1), (2, .int x2), (3, .int x3), (4, .int x4)]) hx hb dX2_reaches_251 hl (k := 6) rfl rfl (by decide) rfl (fun ls hl => ?_)
      refine lv_goto (tgt := 135) hx hb dX2_reaches_254 (by decide) ?_
      rw [evn_l] at hf
      exact IH135 x2 x3 x4 (x5 + (1 : Int32)) σ _ _ _ hH (lv_sub hl [2, 3, 4, 5, 6, 0] rfl) hf
    · rw [if_neg c2] at hf
      refine lv_aload_n hx hb dX2_reaches_228 rfl (lv_at hl 1 rfl) ?_
      replace hf := evn_b1 hf
      obtain ⟨q3, e1, hf⟩ := hf
      refine mm_getA F hH mc_2 (k := 7) (by decide) (hts _ q1054) (fun _ h => h) e1 dX2_reaches_229 ?_
      refine lv_iload hx hb dX2_reaches_232 (lv_at hl 0 rfl) ?_
      replace hf := evn_b1 hf
      obtain ⟨v4, e2, hf⟩ := hf
      refine mm_iald F hH e2 dX2_reaches_234 ?_
      refine lv_iconst (v := (-1)) hx hb dX2_reaches_235 (by decide) ?_
      refine lv_icmp_ne (tgt := 251) hx hb dX2_reaches_236 (by decide) (fun c5 => ?_) (fun c5 => ?_)
      · rw [if_neg c5] at hf
        refine lv_iinc (v := x5 + (1 : Int32)) (lv' := [(5, .int (x5 + (1 : Int32))), (6, .int t0), (0, .ref h0), (1, .int x1), (2, .int x2), (3, .int x3), (4, .int x4)]) hx hb dX2_reaches_251 hl (k := 6) rfl rfl (by decide) rfl (fun ls hl => ?_)
        refine lv_goto (tgt := 135) hx hb dX2_reaches_254 (by decide) ?_
        rw [evn_l] at hf
        exact IH135 x2 x3 x4 (x5 + (1 : Int32)) σ _ _ _ hH (lv_sub hl [2, 3, 4, 5, 6, 0] rfl) hf
      · rw [if_pos c5] at hf
        refine lv_aload_n hx hb dX2_reaches_239 rfl (lv_at hl 1 rfl) ?_
        replace hf := evn_b1 hf
        obtain ⟨q6, e3, hf⟩ := hf
        refine mm_getA F hH mc_2 (k := 7) (by decide) (hts _ q1054) (fun _ h => h) e3 dX2_reaches_240 ?_
        refine lv_iload hx hb dX2_reaches_243 (lv_at hl 0 rfl) ?_
        refine lv_iload_n hx hb dX2_reaches_245 rfl (lv_at hl 4 rfl) ?_
        refine lv_iconst (v := 1) hx hb dX2_reaches_246 (by decide) ?_
        refine lv_iadd hx hb dX2_reaches_247 ?_
        replace hf := evn_b1 hf
        obtain ⟨σ7, e4, hf⟩ := hf
        refine mm_iast F hH e4 dX2_reaches_248 (fun H locs hH => ?_)
        refine lv_iconst (v := 1) hx hb dX2_reaches_249 (by decide) ?_
        refine lv_istore_n (lv' := [(2, .int (1 : Int32)), (6, .int t0), (0, .ref h0), (1, .int x1), (3, .int x3), (4, .int x4), (5, .int x5)]) hx hb dX2_reaches_250 rfl hl (by decide) rfl (fun ls hl => ?_)
        refine lv_iinc (v := x5 + (1 : Int32)) (lv' := [(5, .int (x5 + (1 : Int32))), (2, .int (1 : Int32)), (6, .int t0), (0, .ref h0), (1, .int x1), (3, .int x3), (4, .int x4)]) hx hb dX2_reaches_251 hl (k := 6) rfl rfl (by decide) rfl (fun ls hl => ?_)
        refine lv_goto (tgt := 135) hx hb dX2_reaches_254 (by decide) ?_
        rw [evn_l] at hf
        exact IH135 (1 : Int32) x3 x4 (x5 + (1 : Int32)) σ7 _ _ _ hH (lv_sub hl [3, 4, 1, 5, 6, 0] rfl) hf
set_option maxHeartbeats 4000000 in
theorem w_X2_reaches_135 {p : Program} {l : Launch} {e : Env} {s : State} {m : MethodId} {av : Array Value} {below : List Frame} {meth : Method} {c : Code} {G : mm_G} {σf : mm_M} {n : Nat} {h0 : Nat} {x1 : Int32} (F : mm_F p s m av c RX2 cX2_reaches 7 G) (hr : meth.sig.returnType = (Option.none : Option Jvm.ClassFile.FieldType)) (hlocks : meth.locks = false) (hname : meth.name = yX2_reaches.name) (IH2 : ∀ (x2 : Int32) (σ : mm_M) (H : Heap) (locs : List Loc) (ls : Array Slot), mm_H G s σ H locs → lv_has ls 7 [(0, .ref h0), (1, .int x1), (2, .int x2)] → itn (s_X2_reaches h0 x1) n (.inl (x2, σ)) = some σf → W p l e rm_X2_reaches s m av below meth c H locs 0 0 (MQ below (mm_Qv G σf) av s 0 0 (mm_A G)) (F0 m 2 ls [])) (IH24 : ∀ (x2 : Int32) (σ : mm_M) (H : Heap) (locs : List Loc) (ls : Array Slot), mm_H G s σ H locs → lv_has ls 7 [(0, .ref h0), (1, .int x1), (2, .int x2)] → itn (s_X2_reaches h0 x1) n (.inr (.inl (x2, σ))) = some σf → W p l e rm_X2_reaches s m av below meth c H locs 0 0 (MQ below (mm_Qv G σf) av s 0 0 (mm_A G)) (F0 m 24 ls [])) (IH53 : ∀ (x2 : Int32) (σ : mm_M) (H : Heap) (locs : List Loc) (ls : Array Slot), mm_H G s σ H locs → lv_has ls 7 [(0, .ref h0), (1, .int x1), (2, .int x2)] → itn (s_X2_reaches h0 x1) n (.inr (.inr (.inl (x2, σ)))) = some σf → W p l e rm_X2_reaches s m av below meth c H locs 0 0 (MQ below (mm_Qv G σf) av s 0 0 (mm_A G)) (F0 m 53 ls [])) (IH110 : ∀ (x2 : Int32) (x3 : Int32) (σ : mm_M) (H : Heap) (locs : List Loc) (ls : Array Slot), mm_H G s σ H locs → lv_has ls 7 [(0, .ref h0), (1, .int x1), (2, .int x2), (3, .int x3)] → itn (s_X2_reaches h0 x1) n (.inr (.inr (.inr (.inl (x2, x3, σ))))) = some σf → W p l e rm_X2_reaches s m av below meth c H locs 0 0 (MQ below (mm_Qv G σf) av s 0 0 (mm_A G)) (F0 m 110 ls [])) (IH119 : ∀ (x2 : Int32) (x3 : Int32) (x4 : Int32) (σ : mm_M) (H : Heap) (locs : List Loc) (ls : Array Slot), mm_H G s σ H locs → lv_has ls 7 [(0, .ref h0), (1, .int x1), (2, .int x2), (3, .int x3), (4, .int x4)] → itn (s_X2_reaches h0 x1) n (.inr (.inr (.inr (.inr (.inl (x2, x3, x4, σ)))))) = some σf → W p l e rm_X2_reaches s m av below meth c H locs 0 0 (MQ below (mm_Qv G σf) av s 0 0 (mm_A G)) (F0 m 119 ls [])) (IH135 : ∀ (x2 : Int32) (x3 : Int32) (x4 : Int32) (x5 : Int32) (σ : mm_M) (H : Heap) (locs : List Loc) (ls : Array Slot), mm_H G s σ H locs → lv_has ls 7 [(0, .ref h0), (1, .int x1), (2, .int x2), (3, .int x3), (4, .int x4), (5, .int x5)] → itn (s_X2_reaches h0 x1) n (.inr (.inr (.inr (.inr (.inr (x2, x3, x4, x5, σ)))))) = some σf → W p l e rm_X2_reaches s m av below meth c H locs 0 0 (MQ below (mm_Qv G σf) av s 0 0 (mm_A G)) (F0 m 135 ls []))  (x2 : Int32) (x3 : Int32) (x4 : Int32) (x5 : Int32)  (σ : mm_M) (hf : evn (s_X2_reaches h0 x1) n (g_X2_reaches_135 h0 x1 x2 x3 x4 x5 σ) = some σf) {H : Heap} {locs : List Loc} {ls : Array Slot} (hH : mm_H G s σ H locs) (hl : lv_has ls 7 [(0, .ref h0), (1, .int x1), (2, .int x2), (3, .int x3), (4, .int x4), (5, .int x5)]) : W p l e rm_X2_reaches s m av below meth c H locs 0 0 (MQ below (mm_Qv G σf) av s 0 0 (mm_A G)) (F0 m 135 ls []) := by
  have hx := F.1
  have hb := F.2.1
  have hml := F.2.2.1
  have hown := F.2.2.2.1
  have hts := F.2.2.2.2.1
  unfold g_X2_reaches_135 at hf
  refine lv_iload hx hb dX2_reaches_135 (lv_at hl 5 rfl) ?_
  refine lv_aload_n hx hb dX2_reaches_137 rfl (lv_at hl 0 rfl) ?_
  replace hf := evn_b1 hf
  obtain ⟨q1, e1, hf⟩ := hf
  refine mm_getA F hH mc_2 (k := 0) (by decide) (hts _ q1047) (fun _ h => h) e1 dX2_reaches_138 ?_
  refine lv_sipush (v := 200) hx hb dX2_reaches_141 (by decide) ?_
  refine lv_iload hx hb dX2_reaches_144 (lv_at hl 4 rfl) ?_
  refine lv_iadd hx hb dX2_reaches_146 ?_
  replace hf := evn_b1 hf
  obtain ⟨v2, e2, hf⟩ := hf
  refine mm_iald F hH e2 dX2_reaches_147 ?_
  refine lv_icmp_gt (tgt := 257) hx hb dX2_reaches_148 (by decide) (fun c3 => ?_) (fun c3 => ?_)
  · rw [if_pos c3] at hf
    refine lv_iinc (v := x4 + (1 : Int32)) (lv' := [(4, .int (x4 + (1 : Int32))), (0, .ref h0), (1, .int x1), (2, .int x2), (3, .int x3), (5, .int x5)]) hx hb dX2_reaches_257 hl (k := 4) rfl rfl (by decide) rfl (fun ls hl => ?_)
    refine lv_goto (tgt := 119) hx hb dX2_reaches_260 (by decide) ?_
    rw [evn_l] at hf
    exact IH119 x2 x3 (x4 + (1 : Int32)) σ _ _ _ hH (lv_sub hl [1, 2, 3, 4, 0] rfl) hf
  · rw [if_neg c3] at hf
    refine lv_aload_n hx hb dX2_reaches_151 rfl (lv_at hl 0 rfl) ?_
    replace hf := evn_b1 hf
    obtain ⟨q4, e3, hf⟩ := hf
    refine mm_getA F hH mc_2 (k := 0) (by decide) (hts _ q1047) (fun _ h => h) e3 dX2_reaches_152 ?_
    refine lv_iconst (v := 0) hx hb dX2_reaches_155 (by decide) ?_
    refine lv_iload hx hb dX2_reaches_156 (lv_at hl 4 rfl) ?_
    refine lv_iadd hx hb dX2_reaches_158 ?_
    replace hf := evn_b1 hf
    obtain ⟨v5, e4, hf⟩ := hf
    refine mm_iald F hH e4 dX2_reaches_159 ?_
    refine lv_if_le (tgt := 257) hx hb dX2_reaches_160 (by decide) (fun c6 => ?_) (fun c6 => ?_)
    · rw [if_pos c6] at hf
      refine lv_iinc (v := x4 + (1 : Int32)) (lv' := [(4, .int (x4 + (1 : Int32))), (0, .ref h0), (1, .int x1), (2, .int x2), (3, .int x3), (5, .int x5)]) hx hb dX2_reaches_257 hl (k := 4) rfl rfl (by decide) rfl (fun ls hl => ?_)
      refine lv_goto (tgt := 119) hx hb dX2_reaches_260 (by decide) ?_
      rw [evn_l] at hf
      exact IH119 x2 x3 (x4 + (1 : Int32)) σ _ _ _ hH (lv_sub hl [1, 2, 3, 4, 0] rfl) hf
    · rw [if_neg c6] at hf
      refine lv_aload_n hx hb dX2_reaches_163 rfl (lv_at hl 0 rfl) ?_
      replace hf := evn_b1 hf
      obtain ⟨q7, e5, hf⟩ := hf
      refine mm_getA F hH mc_2 (k := 7) (by decide) (hts _ q1054) (fun _ h => h) e5 dX2_reaches_164 ?_
      refine lv_iload hx hb dX2_reaches_167 (lv_at hl 4 rfl) ?_
      replace hf := evn_b1 hf
      obtain ⟨v8, e6, hf⟩ := hf
      refine mm_iald F hH e6 dX2_reaches_169 ?_
      refine lv_iload_n hx hb dX2_reaches_170 rfl (lv_at hl 3 rfl) ?_
      refine lv_icmp_ne (tgt := 257) hx hb dX2_reaches_171 (by decide) (fun c9 => ?_) (fun c9 => ?_)
      · rw [if_neg c9] at hf
        refine lv_iinc (v := x4 + (1 : Int32)) (lv' := [(4, .int (x4 + (1 : Int32))), (0, .ref h0), (1, .int x1), (2, .int x2), (3, .int x3), (5, .int x5)]) hx hb dX2_reaches_257 hl (k := 4) rfl rfl (by decide) rfl (fun ls hl => ?_)
        refine lv_goto (tgt := 119) hx hb dX2_reaches_260 (by decide) ?_
        rw [evn_l] at hf
        exact IH119 x2 x3 (x4 + (1 : Int32)) σ _ _ _ hH (lv_sub hl [1, 2, 3, 4, 0] rfl) hf
      · rw [if_pos c9] at hf
        refine lv_aload_n hx hb dX2_reaches_174 rfl (lv_at hl 0 rfl) ?_
        replace hf := evn_b1 hf
        obtain ⟨q10, e7, hf⟩ := hf
        refine mm_getA F hH mc_2 (k := 0) (by decide) (hts _ q1047) (fun _ h => h) e7 dX2_reaches_175 ?_
        refine lv_sipush (v := 800) hx hb dX2_reaches_178 (by decide) ?_
        refine lv_iload hx hb dX2_reaches_181 (lv_at hl 4 rfl) ?_
        refine lv_iadd hx hb dX2_reaches_183 ?_
        refine lv_iload hx hb dX2_reaches_184 (lv_at hl 5 rfl) ?_
        refine lv_iadd hx hb dX2_reaches_186 ?_
        replace hf := evn_b1 hf
        obtain ⟨v11, e8, hf⟩ := hf
        refine mm_iald F hH e8 dX2_reaches_187 ?_
        refine lv_iconst (v := (-1)) hx hb dX2_reaches_188 (by decide) ?_
        refine lv_icmp_ne (tgt := 196) hx hb dX2_reaches_189 (by decide) (fun c12 => ?_) (fun c12 => ?_)
        · rw [if_neg c12] at hf
          refine lv_aload_n hx hb dX2_reaches_196 rfl (lv_at hl 0 rfl) ?_
          refine lv_aload_n hx hb dX2_reaches_197 rfl (lv_at hl 0 rfl) ?_
          replace hf := evn_b1 hf
          obtain ⟨q13, e9, hf⟩ := hf
          refine mm_getA F hH mc_2 (k := 0) (by decide) (hts _ q1047) (fun _ h => h) e9 dX2_reaches_198 ?_
          refine lv_sipush (v := 800) hx hb dX2_reaches_201 (by decide) ?_
          refine lv_iload hx hb dX2_reaches_204 (lv_at hl 4 rfl) ?_
          refine lv_iadd hx hb dX2_reaches_206 ?_
          refine lv_iload hx hb dX2_reaches_207 (lv_at hl 5 rfl) ?_
          refine lv_iadd hx hb dX2_reaches_209 ?_
          replace hf := evn_b1 hf
          obtain ⟨v14, e10, hf⟩ := hf
          refine mm_iald F hH e10 dX2_reaches_210 ?_
          replace hf := evn_b1 hf
          obtain ⟨u, e11, hf⟩ := hf
          obtain ⟨fs, ek⟩ := ck_i e11
          replace hf := evn_b1 hf
          obtain ⟨v15, e12, hf⟩ := hf
          refine mm_ci (va_runV (As := [.int v14]) (rest := []) ⟨hx, hb, hml, hown, hts⟩ (m_X2_objectOf l G h0 v14 σ v15 e12) (cwV 1 hts (lw_V q1124 q1126 qs34 q67 q1127) rfl rfl rfl (by decide +kernel) ⟨Nat.le_of_ble_eq_true rfl, Nat.le_of_ble_eq_true rfl⟩) (mm_preV F.2.2.2.2.2 hH (ci := 2) rfl ek) rfl rfl hl.1 rfl (lv_room (Nat.le_of_ble_eq_true rfl)) dX2_reaches_211 ⟨Nat.le_of_ble_eq_true rfl, Nat.le_of_ble_eq_true rfl⟩) hH (fun H locs hH => ?_)
          exact w_X2_reaches_214 F hr hlocks hname IH2 IH24 IH53 IH110 IH119 IH135 x2 x3 x4 x5 v15 σ hf hH (lv_sub hl [0, 1, 2, 3, 4, 5] rfl)
        · rw [if_pos c12] at hf
          refine lv_iconst (v := (-1)) hx hb dX2_reaches_192 (by decide) ?_
          refine lv_goto (tgt := 214) hx hb dX2_reaches_193 (by decide) ?_
          exact w_X2_reaches_214 F hr hlocks hname IH2 IH24 IH53 IH110 IH119 IH135 x2 x3 x4 x5 (-1 : Int32) σ hf hH (lv_sub hl [0, 1, 2, 3, 4, 5] rfl)
set_option maxHeartbeats 4000000 in
theorem w_X2_reaches_0 {p : Program} {l : Launch} {e : Env} {s : State} {m : MethodId} {av : Array Value} {below : List Frame} {meth : Method} {c : Code} {G : mm_G} {σf : mm_M} {n : Nat} {h0 : Nat} {x1 : Int32} (F : mm_F p s m av c RX2 cX2_reaches 7 G) (hr : meth.sig.returnType = (Option.none : Option Jvm.ClassFile.FieldType)) (hlocks : meth.locks = false) (hname : meth.name = yX2_reaches.name) (IH2 : ∀ (x2 : Int32) (σ : mm_M) (H : Heap) (locs : List Loc) (ls : Array Slot), mm_H G s σ H locs → lv_has ls 7 [(0, .ref h0), (1, .int x1), (2, .int x2)] → itn (s_X2_reaches h0 x1) n (.inl (x2, σ)) = some σf → W p l e rm_X2_reaches s m av below meth c H locs 0 0 (MQ below (mm_Qv G σf) av s 0 0 (mm_A G)) (F0 m 2 ls [])) (IH24 : ∀ (x2 : Int32) (σ : mm_M) (H : Heap) (locs : List Loc) (ls : Array Slot), mm_H G s σ H locs → lv_has ls 7 [(0, .ref h0), (1, .int x1), (2, .int x2)] → itn (s_X2_reaches h0 x1) n (.inr (.inl (x2, σ))) = some σf → W p l e rm_X2_reaches s m av below meth c H locs 0 0 (MQ below (mm_Qv G σf) av s 0 0 (mm_A G)) (F0 m 24 ls [])) (IH53 : ∀ (x2 : Int32) (σ : mm_M) (H : Heap) (locs : List Loc) (ls : Array Slot), mm_H G s σ H locs → lv_has ls 7 [(0, .ref h0), (1, .int x1), (2, .int x2)] → itn (s_X2_reaches h0 x1) n (.inr (.inr (.inl (x2, σ)))) = some σf → W p l e rm_X2_reaches s m av below meth c H locs 0 0 (MQ below (mm_Qv G σf) av s 0 0 (mm_A G)) (F0 m 53 ls [])) (IH110 : ∀ (x2 : Int32) (x3 : Int32) (σ : mm_M) (H : Heap) (locs : List Loc) (ls : Array Slot), mm_H G s σ H locs → lv_has ls 7 [(0, .ref h0), (1, .int x1), (2, .int x2), (3, .int x3)] → itn (s_X2_reaches h0 x1) n (.inr (.inr (.inr (.inl (x2, x3, σ))))) = some σf → W p l e rm_X2_reaches s m av below meth c H locs 0 0 (MQ below (mm_Qv G σf) av s 0 0 (mm_A G)) (F0 m 110 ls [])) (IH119 : ∀ (x2 : Int32) (x3 : Int32) (x4 : Int32) (σ : mm_M) (H : Heap) (locs : List Loc) (ls : Array Slot), mm_H G s σ H locs → lv_has ls 7 [(0, .ref h0), (1, .int x1), (2, .int x2), (3, .int x3), (4, .int x4)] → itn (s_X2_reaches h0 x1) n (.inr (.inr (.inr (.inr (.inl (x2, x3, x4, σ)))))) = some σf → W p l e rm_X2_reaches s m av below meth c H locs 0 0 (MQ below (mm_Qv G σf) av s 0 0 (mm_A G)) (F0 m 119 ls [])) (IH135 : ∀ (x2 : Int32) (x3 : Int32) (x4 : Int32) (x5 : Int32) (σ : mm_M) (H : Heap) (locs : List Loc) (ls : Array Slot), mm_H G s σ H locs → lv_has ls 7 [(0, .ref h0), (1, .int x1), (2, .int x2), (3, .int x3), (4, .int x4), (5, .int x5)] → itn (s_X2_reaches h0 x1) n (.inr (.inr (.inr (.inr (.inr (x2, x3, x4, x5, σ)))))) = some σf → W p l e rm_X2_reaches s m av below meth c H locs 0 0 (MQ below (mm_Qv G σf) av s 0 0 (mm_A G)) (F0 m 135 ls []))    (σ : mm_M) (hf : evn (s_X2_reaches h0 x1) n (g_X2_reaches_0 h0 x1 σ) = some σf) {H : Heap} {locs : List Loc} {ls : Array Slot} (hH : mm_H G s σ H locs) (hl : lv_has ls 7 [(0, .ref h0), (1, .int x1)]) : W p l e rm_X2_reaches s m av below meth c H locs 0 0 (MQ below (mm_Qv G σf) av s 0 0 (mm_A G)) (F0 m 0 ls []) := by
  have hx := F.1
  have hb := F.2.1
  have hml := F.2.2.1
  have hown := F.2.2.2.1
  have hts := F.2.2.2.2.1
  unfold g_X2_reaches_0 at hf
  refine lv_iconst (v := 0) hx hb dX2_reaches_0 (by decide) ?_
  refine lv_istore_n (lv' := [(2, .int (0 : Int32)), (0, .ref h0), (1, .int x1)]) hx hb dX2_reaches_1 rfl hl (by decide) rfl (fun ls hl => ?_)
  rw [evn_l] at hf
  exact IH2 (0 : Int32) σ _ _ _ hH (lv_sub hl [1, 2, 0] rfl) hf
set_option maxHeartbeats 4000000 in
theorem l_X2_reaches {p : Program} {l : Launch} {e : Env} {s : State} {m : MethodId} {av : Array Value} {below : List Frame} {meth : Method} {c : Code} {G : mm_G} {σf : mm_M} {h0 : Nat} {x1 : Int32} (F : mm_F p s m av c RX2 cX2_reaches 7 G) (hr : meth.sig.returnType = (Option.none : Option Jvm.ClassFile.FieldType)) (hlocks : meth.locks = false) (hname : meth.name = yX2_reaches.name) : ∀ n : Nat, (∀ (x2 : Int32) (σ : mm_M) (H : Heap) (locs : List Loc) (ls : Array Slot), mm_H G s σ H locs → lv_has ls 7 [(0, .ref h0), (1, .int x1), (2, .int x2)] → itn (s_X2_reaches h0 x1) n (.inl (x2, σ)) = some σf → W p l e rm_X2_reaches s m av below meth c H locs 0 0 (MQ below (mm_Qv G σf) av s 0 0 (mm_A G)) (F0 m 2 ls [])) ∧ (∀ (x2 : Int32) (σ : mm_M) (H : Heap) (locs : List Loc) (ls : Array Slot), mm_H G s σ H locs → lv_has ls 7 [(0, .ref h0), (1, .int x1), (2, .int x2)] → itn (s_X2_reaches h0 x1) n (.inr (.inl (x2, σ))) = some σf → W p l e rm_X2_reaches s m av below meth c H locs 0 0 (MQ below (mm_Qv G σf) av s 0 0 (mm_A G)) (F0 m 24 ls [])) ∧ (∀ (x2 : Int32) (σ : mm_M) (H : Heap) (locs : List Loc) (ls : Array Slot), mm_H G s σ H locs → lv_has ls 7 [(0, .ref h0), (1, .int x1), (2, .int x2)] → itn (s_X2_reaches h0 x1) n (.inr (.inr (.inl (x2, σ)))) = some σf → W p l e rm_X2_reaches s m av below meth c H locs 0 0 (MQ below (mm_Qv G σf) av s 0 0 (mm_A G)) (F0 m 53 ls [])) ∧ (∀ (x2 : Int32) (x3 : Int32) (σ : mm_M) (H : Heap) (locs : List Loc) (ls : Array Slot), mm_H G s σ H locs → lv_has ls 7 [(0, .ref h0), (1, .int x1), (2, .int x2), (3, .int x3)] → itn (s_X2_reaches h0 x1) n (.inr (.inr (.inr (.inl (x2, x3, σ))))) = some σf → W p l e rm_X2_reaches s m av below meth c H locs 0 0 (MQ below (mm_Qv G σf) av s 0 0 (mm_A G)) (F0 m 110 ls [])) ∧ (∀ (x2 : Int32) (x3 : Int32) (x4 : Int32) (σ : mm_M) (H : Heap) (locs : List Loc) (ls : Array Slot), mm_H G s σ H locs → lv_has ls 7 [(0, .ref h0), (1, .int x1), (2, .int x2), (3, .int x3), (4, .int x4)] → itn (s_X2_reaches h0 x1) n (.inr (.inr (.inr (.inr (.inl (x2, x3, x4, σ)))))) = some σf → W p l e rm_X2_reaches s m av below meth c H locs 0 0 (MQ below (mm_Qv G σf) av s 0 0 (mm_A G)) (F0 m 119 ls [])) ∧ (∀ (x2 : Int32) (x3 : Int32) (x4 : Int32) (x5 : Int32) (σ : mm_M) (H : Heap) (locs : List Loc) (ls : Array Slot), mm_H G s σ H locs → lv_has ls 7 [(0, .ref h0), (1, .int x1), (2, .int x2), (3, .int x3), (4, .int x4), (5, .int x5)] → itn (s_X2_reaches h0 x1) n (.inr (.inr (.inr (.inr (.inr (x2, x3, x4, x5, σ)))))) = some σf → W p l e rm_X2_reaches s m av below meth c H locs 0 0 (MQ below (mm_Qv G σf) av s 0 0 (mm_A G)) (F0 m 135 ls [])) := by
  intro n
  induction n with
  | zero =>
    exact ⟨fun x2 σ H locs ls hH hl hf => (by cases hf), fun x2 σ H locs ls hH hl hf => (by cases hf), fun x2 σ H locs ls hH hl hf => (by cases hf), fun x2 x3 σ H locs ls hH hl hf => (by cases hf), fun x2 x3 x4 σ H locs ls hH hl hf => (by cases hf), fun x2 x3 x4 x5 σ H locs ls hH hl hf => (by cases hf)⟩
  | succ n ih =>
    obtain ⟨IH2, IH24, IH53, IH110, IH119, IH135⟩ := ih
    refine ⟨?_, ?_, ?_, ?_, ?_, ?_⟩
    · intro x2 σ H locs ls hH hl hf
      rw [itn_s] at hf
      exact w_X2_reaches_2 F hr hlocks hname IH2 IH24 IH53 IH110 IH119 IH135 x2 σ hf hH hl
    · intro x2 σ H locs ls hH hl hf
      rw [itn_s] at hf
      exact w_X2_reaches_24 F hr hlocks hname IH2 IH24 IH53 IH110 IH119 IH135 x2 σ hf hH hl
    · intro x2 σ H locs ls hH hl hf
      rw [itn_s] at hf
      exact w_X2_reaches_53 F hr hlocks hname IH2 IH24 IH53 IH110 IH119 IH135 x2 σ hf hH hl
    · intro x2 x3 σ H locs ls hH hl hf
      rw [itn_s] at hf
      exact w_X2_reaches_110 F hr hlocks hname IH2 IH24 IH53 IH110 IH119 IH135 x2 x3 σ hf hH hl
    · intro x2 x3 x4 σ H locs ls hH hl hf
      rw [itn_s] at hf
      exact w_X2_reaches_119 F hr hlocks hname IH2 IH24 IH53 IH110 IH119 IH135 x2 x3 x4 σ hf hH hl
    · intro x2 x3 x4 x5 σ H locs ls hH hl hf
      rw [itn_s] at hf
      exact w_X2_reaches_135 F hr hlocks hname IH2 IH24 IH53 IH110 IH119 IH135 x2 x3 x4 x5 σ hf hH hl
set_option maxHeartbeats 4000000 in
theorem m_X2_reaches (l : Launch) (G : mm_G) (h0 : Nat) (x1 : Int32) (σ : mm_M) (σf : mm_M) (hf : f_X2_reaches h0 x1 σ = some σf) : Met l yX2_reaches (ws_ yX2_reaches cX2_reaches 7 ((Option.none : Option Jvm.ClassFile.FieldType))) rm_X2_reaches (mm_Pc G [.ref h0, .int x1] σ) (mm_Qv G σf) 0 0 (mm_A G) := by
  refine mm_met (by decide) rfl rfl (by  exact Nat.le_of_ble_eq_true rfl) (fun p e s m below meth c ls F hH hr hlocks hname hl => ?_)
  have hl : lv_has ls 7 [(0, .ref h0), (1, .int x1)] := by  exact hl
  have F : mm_F p s m _ c RX2 cX2_reaches 7 G := F
  unfold f_X2_reaches at hf
  obtain ⟨n, hf⟩ := lgo_i hf
  have IH := l_X2_reaches (l := l) (e := e) (below := below) (σf := σf) (h0 := h0) (x1 := x1) F hr hlocks hname n
  exact w_X2_reaches_0 F hr hlocks hname IH.1 IH.2.1 IH.2.2.1 IH.2.2.2.1 IH.2.2.2.2.1 IH.2.2.2.2.2 σ hf hH (lv_sub hl [0, 1] rfl)
/-! IslandHeapModel.object(II)I -/
abbrev rm_X2_object : Room := { frames := 4, cells := 0, slots := 0, locals := 93 }
set_option maxHeartbeats 4000000 in
theorem m_X2_object (l : Launch) (G : mm_G) (h0 : Nat) (x1 : Int32) (x2 : Int32) (σ : mm_M) (σf : mm_M) (rr : Int32) (hf : f_X2_object h0 x1 x2 σ = some (rr, σf)) : Met l yX2_object (ws_ yX2_object cX2_object 4 ((Option.some .int))) rm_X2_object (mm_Pc G [.ref h0, .int x1, .int x2] σ) (mm_Qi G rr σf) 0 0 (mm_A G) := by
  refine mm_met (by decide) rfl rfl (by  exact Nat.le_of_ble_eq_true rfl) (fun p e s m below meth c ls F hH hr hlocks hname hl => ?_)
  have hl : lv_has ls 4 [(0, .ref h0), (1, .int x1), (2, .int x2)] := by  exact hl
  have F : mm_F p s m _ c RX2 cX2_object 4 G := F
  have hx := F.1
  have hb := F.2.1
  have hml := F.2.2.1
  have hown := F.2.2.2.1
  have hts := F.2.2.2.2.1
  unfold f_X2_object at hf
  refine lv_aload_n hx hb dX2_object_0 rfl (lv_at hl 0 rfl) ?_
  refine lv_iload_n hx hb dX2_object_1 rfl (lv_at hl 1 rfl) ?_
  replace hf := b1_i hf
  obtain ⟨u, e1, hf⟩ := hf
  obtain ⟨fs, ek⟩ := ck_i e1
  replace hf := b1_i hf
  obtain ⟨v1, e2, hf⟩ := hf
  refine mm_ci (va_runV (As := [.int x1]) (rest := []) ⟨hx, hb, hml, hown, hts⟩ (m_X2_objectOf l G h0 x1 σ v1 e2) (cwV 1 hts (lw_V q1124 q1126 qs34 q67 q1127) rfl rfl rfl (by decide +kernel) ⟨Nat.le_of_ble_eq_true rfl, Nat.le_of_ble_eq_true rfl⟩) (mm_preV F.2.2.2.2.2 hH (ci := 2) rfl ek) rfl rfl hl.1 rfl (lv_room (Nat.le_of_ble_eq_true rfl)) dX2_object_2 ⟨Nat.le_of_ble_eq_true rfl, Nat.le_of_ble_eq_true rfl⟩) hH (fun H locs hH => ?_)
  refine lv_istore_n (lv' := [(3, .int v1), (0, .ref h0), (1, .int x1), (2, .int x2)]) hx hb dX2_object_5 rfl hl (by decide) rfl (fun ls hl => ?_)
  refine lv_iload_n hx hb dX2_object_6 rfl (lv_at hl 0 rfl) ?_
  refine lv_iconst (v := (-1)) hx hb dX2_object_7 (by decide) ?_
  refine lv_icmp_eq (tgt := 21) hx hb dX2_object_8 (by decide) (fun c2 => ?_) (fun c2 => ?_)
  · rw [if_pos c2] at hf
    refine lv_ldc (v := (-1000002)) hx hb hown (hts _ q1110) dX2_object_21 ?_
    obtain ⟨h1, h2⟩ := Prod.mk.inj (Option.some.inj hf)
    subst h1
    subst h2
    exact mm_reti F hH hr hlocks rfl rfl dX2_object_23
  · rw [if_neg c2] at hf
    refine lv_iload_n hx hb dX2_object_11 rfl (lv_at hl 3 rfl) ?_
    refine lv_iconst (v := 0) hx hb dX2_object_12 (by decide) ?_
    refine lv_bipush (v := 7) hx hb dX2_object_13 (by decide) ?_
    replace hf := b1_i hf
    obtain ⟨v3, e3, hf⟩ := hf
    refine mm_ci (va_runS (As := [.int x2, .int (0 : Int32), .int (7 : Int32)]) (rest := []) ⟨hx, hb, hml, hown, hts⟩ (m_X2_in l G x2 (0 : Int32) (7 : Int32) σ v3 e3) (va_cwS 3 hts (lw_S q1107 q1108 q67 q1109) rfl rfl rfl (by decide +kernel) ⟨Nat.le_of_ble_eq_true rfl, Nat.le_of_ble_eq_true rfl⟩) (mm_preS F.2.2.2.2.2 hH) rfl rfl hl.1 rfl (lv_room (Nat.le_of_ble_eq_true rfl)) dX2_object_15 ⟨Nat.le_of_ble_eq_true rfl, Nat.le_of_ble_eq_true rfl⟩) hH (fun H locs hH => ?_)
    refine lv_if_ne (tgt := 24) hx hb dX2_object_18 (by decide) (fun c4 => ?_) (fun c4 => ?_)
    · rw [if_neg c4] at hf
      refine lv_iload_n hx hb dX2_object_24 rfl (lv_at hl 3 rfl) ?_
      by_cases c5 : x2 = (0 : Int32)
      · rw [if_pos c5] at hf
        refine lv_tableIn (off := 43) (tgt := 68) hx hb dX2_object_25 (by rw [c5]; decide) (by rw [c5]; decide) (by rw [c5]; rfl) (by decide) ?_
        refine lv_iload_n hx hb dX2_object_68 rfl (lv_at hl 0 rfl) ?_
        obtain ⟨h1, h2⟩ := Prod.mk.inj (Option.some.inj hf)
        subst h1
        subst h2
        exact mm_reti F hH hr hlocks rfl rfl dX2_object_69
      · rw [if_neg c5] at hf
        by_cases c6 : x2 = (1 : Int32)
        · rw [if_pos c6] at hf
          refine lv_tableIn (off := 45) (tgt := 70) hx hb dX2_object_25 (by rw [c6]; decide) (by rw [c6]; decide) (by rw [c6]; rfl) (by decide) ?_
          refine lv_aload_n hx hb dX2_object_70 rfl (lv_at hl 1 rfl) ?_
          replace hf := b1_i hf
          obtain ⟨q12, e4, hf⟩ := hf
          refine mm_getA F hH mc_2 (k := 0) (by decide) (hts _ q1047) (fun _ h => h) e4 dX2_object_71 ?_
          refine lv_iconst (v := 0) hx hb dX2_object_74 (by decide) ?_
          refine lv_iload_n hx hb dX2_object_75 rfl (lv_at hl 0 rfl) ?_
          refine lv_iadd hx hb dX2_object_76 ?_
          replace hf := b1_i hf
          obtain ⟨v13, e5, hf⟩ := hf
          refine mm_iald F hH e5 dX2_object_77 ?_
          obtain ⟨h1, h2⟩ := Prod.mk.inj (Option.some.inj hf)
          subst h1
          subst h2
          exact mm_reti F hH hr hlocks rfl rfl dX2_object_78
        · rw [if_neg c6] at hf
          by_cases c7 : x2 = (2 : Int32)
          · rw [if_pos c7] at hf
            refine lv_tableIn (off := 54) (tgt := 79) hx hb dX2_object_25 (by rw [c7]; decide) (by rw [c7]; decide) (by rw [c7]; rfl) (by decide) ?_
            refine lv_aload_n hx hb dX2_object_79 rfl (lv_at hl 1 rfl) ?_
            replace hf := b1_i hf
            obtain ⟨q14, e6, hf⟩ := hf
            refine mm_getA F hH mc_2 (k := 0) (by decide) (hts _ q1047) (fun _ h => h) e6 dX2_object_80 ?_
            refine lv_sipush (v := 200) hx hb dX2_object_83 (by decide) ?_
            refine lv_iload_n hx hb dX2_object_86 rfl (lv_at hl 0 rfl) ?_
            refine lv_iadd hx hb dX2_object_87 ?_
            replace hf := b1_i hf
            obtain ⟨v15, e7, hf⟩ := hf
            refine mm_iald F hH e7 dX2_object_88 ?_
            obtain ⟨h1, h2⟩ := Prod.mk.inj (Option.some.inj hf)
            subst h1
            subst h2
            exact mm_reti F hH hr hlocks rfl rfl dX2_object_89
          · rw [if_neg c7] at hf
            by_cases c8 : x2 = (3 : Int32)
            · rw [if_pos c8] at hf
              refine lv_tableIn (off := 65) (tgt := 90) hx hb dX2_object_25 (by rw [c8]; decide) (by rw [c8]; decide) (by rw [c8]; rfl) (by decide) ?_
              refine lv_aload_n hx hb dX2_object_90 rfl (lv_at hl 1 rfl) ?_
              refine lv_iload_n hx hb dX2_object_91 rfl (lv_at hl 0 rfl) ?_
              replace hf := b1_i hf
              obtain ⟨u, e8, hf⟩ := hf
              obtain ⟨fs, ek⟩ := ck_i e8
              replace hf := b1_i hf
              obtain ⟨v16, e9, hf⟩ := hf
              refine mm_ci (va_runV (As := [.int v1]) (rest := []) ⟨hx, hb, hml, hown, hts⟩ (m_X2_dataOf l G h0 v1 σ v16 e9) (cwV 1 hts (lw_V q1128 q1130 qs35 q67 q1131) rfl rfl rfl (by decide +kernel) ⟨Nat.le_of_ble_eq_true rfl, Nat.le_of_ble_eq_true rfl⟩) (mm_preV F.2.2.2.2.2 hH (ci := 2) rfl ek) rfl rfl hl.1 rfl (lv_room (Nat.le_of_ble_eq_true rfl)) dX2_object_92 ⟨Nat.le_of_ble_eq_true rfl, Nat.le_of_ble_eq_true rfl⟩) hH (fun H locs hH => ?_)
              obtain ⟨h1, h2⟩ := Prod.mk.inj (Option.some.inj hf)
              subst h1
              subst h2
              exact mm_reti F hH hr hlocks rfl rfl dX2_object_95
            · rw [if_neg c8] at hf
              by_cases c9 : x2 = (4 : Int32)
              · rw [if_pos c9] at hf
                refine lv_tableIn (off := 71) (tgt := 96) hx hb dX2_object_25 (by rw [c9]; decide) (by rw [c9]; decide) (by rw [c9]; rfl) (by decide) ?_
                refine lv_aload_n hx hb dX2_object_96 rfl (lv_at hl 1 rfl) ?_
                replace hf := b1_i hf
                obtain ⟨q17, e10, hf⟩ := hf
                refine mm_getA F hH mc_2 (k := 0) (by decide) (hts _ q1047) (fun _ h => h) e10 dX2_object_97 ?_
                refine lv_sipush (v := 400) hx hb dX2_object_100 (by decide) ?_
                refine lv_iload_n hx hb dX2_object_103 rfl (lv_at hl 0 rfl) ?_
                refine lv_iadd hx hb dX2_object_104 ?_
                replace hf := b1_i hf
                obtain ⟨v18, e11, hf⟩ := hf
                refine mm_iald F hH e11 dX2_object_105 ?_
                obtain ⟨h1, h2⟩ := Prod.mk.inj (Option.some.inj hf)
                subst h1
                subst h2
                exact mm_reti F hH hr hlocks rfl rfl dX2_object_106
              · rw [if_neg c9] at hf
                by_cases c10 : x2 = (5 : Int32)
                · rw [if_pos c10] at hf
                  refine lv_tableIn (off := 82) (tgt := 107) hx hb dX2_object_25 (by rw [c10]; decide) (by rw [c10]; decide) (by rw [c10]; rfl) (by decide) ?_
                  refine lv_aload_n hx hb dX2_object_107 rfl (lv_at hl 1 rfl) ?_
                  replace hf := b1_i hf
                  obtain ⟨q19, e12, hf⟩ := hf
                  refine mm_getA F hH mc_2 (k := 0) (by decide) (hts _ q1047) (fun _ h => h) e12 dX2_object_108 ?_
                  refine lv_sipush (v := 600) hx hb dX2_object_111 (by decide) ?_
                  refine lv_iload_n hx hb dX2_object_114 rfl (lv_at hl 0 rfl) ?_
                  refine lv_iadd hx hb dX2_object_115 ?_
                  replace hf := b1_i hf
                  obtain ⟨v20, e13, hf⟩ := hf
                  refine mm_iald F hH e13 dX2_object_116 ?_
                  obtain ⟨h1, h2⟩ := Prod.mk.inj (Option.some.inj hf)
                  subst h1
                  subst h2
                  exact mm_reti F hH hr hlocks rfl rfl dX2_object_117
                · rw [if_neg c10] at hf
                  by_cases c11 : x2 = (6 : Int32)
                  · rw [if_pos c11] at hf
                    refine lv_tableIn (off := 93) (tgt := 118) hx hb dX2_object_25 (by rw [c11]; decide) (by rw [c11]; decide) (by rw [c11]; rfl) (by decide) ?_
                    refine lv_aload_n hx hb dX2_object_118 rfl (lv_at hl 1 rfl) ?_
                    refine lv_iload_n hx hb dX2_object_119 rfl (lv_at hl 0 rfl) ?_
                    replace hf := b1_i hf
                    obtain ⟨u, e14, hf⟩ := hf
                    obtain ⟨fs, ek⟩ := ck_i e14
                    replace hf := b1_i hf
                    obtain ⟨v21, e15, hf⟩ := hf
                    refine mm_ci (va_runV (As := [.int v1]) (rest := []) ⟨hx, hb, hml, hown, hts⟩ (m_X2_referring l G h0 v1 σ v21 e15) (cwV 1 hts (lw_V q1132 q1134 qs36 q67 q1135) rfl rfl rfl (by decide +kernel) ⟨Nat.le_of_ble_eq_true rfl, Nat.le_of_ble_eq_true rfl⟩) (mm_preV F.2.2.2.2.2 hH (ci := 2) rfl ek) rfl rfl hl.1 rfl (lv_room (Nat.le_of_ble_eq_true rfl)) dX2_object_120 ⟨Nat.le_of_ble_eq_true rfl, Nat.le_of_ble_eq_true rfl⟩) hH (fun H locs hH => ?_)
                    obtain ⟨h1, h2⟩ := Prod.mk.inj (Option.some.inj hf)
                    subst h1
                    subst h2
                    exact mm_reti F hH hr hlocks rfl rfl dX2_object_123
                  · rw [if_neg c11] at hf
                    refine lv_tableOut (tgt := 124) hx hb dX2_object_25 (by have h0 := lv_neT c5 (a := 0) rfl; have h1 := lv_neT c6 (a := 1) rfl; have h2 := lv_neT c7 (a := 2) rfl; have h3 := lv_neT c8 (a := 3) rfl; have h4 := lv_neT c9 (a := 4) rfl; have h5 := lv_neT c10 (a := 5) rfl; have h6 := lv_neT c11 (a := 6) rfl; omega) (by decide) ?_
                    refine lv_aload_n hx hb dX2_object_124 rfl (lv_at hl 1 rfl) ?_
                    refine lv_iconst (v := (-1)) hx hb dX2_object_125 (by decide) ?_
                    replace hf := b1_i hf
                    obtain ⟨u, e16, hf⟩ := hf
                    obtain ⟨fs, ek⟩ := ck_i e16
                    replace hf := b1_i hf
                    obtain ⟨σ22, e17, hf⟩ := hf
                    refine mm_cv (va_runV (As := [.int (-1 : Int32)]) (rest := []) ⟨hx, hb, hml, hown, hts⟩ (m_X2_reaches l G h0 (-1 : Int32) σ σ22 e17) (cwV 1 hts (lw_V q1136 q1138 qs37 q67 q1139) rfl rfl rfl (by decide +kernel) ⟨Nat.le_of_ble_eq_true rfl, Nat.le_of_ble_eq_true rfl⟩) (mm_preV F.2.2.2.2.2 hH (ci := 2) rfl ek) rfl rfl hl.1 rfl (lv_room (Nat.le_of_ble_eq_true rfl)) dX2_object_126 ⟨Nat.le_of_ble_eq_true rfl, Nat.le_of_ble_eq_true rfl⟩) hH (fun H locs hH => ?_)
                    refine lv_aload_n hx hb dX2_object_129 rfl (lv_at hl 1 rfl) ?_
                    replace hf := b1_i hf
                    obtain ⟨q23, e18, hf⟩ := hf
                    refine mm_getA F hH mc_2 (k := 7) (by decide) (hts _ q1054) (fun _ h => h) e18 dX2_object_130 ?_
                    refine lv_iload_n hx hb dX2_object_133 rfl (lv_at hl 0 rfl) ?_
                    replace hf := b1_i hf
                    obtain ⟨v24, e19, hf⟩ := hf
                    refine mm_iald F hH e19 dX2_object_134 ?_
                    refine lv_iconst (v := (-1)) hx hb dX2_object_135 (by decide) ?_
                    refine lv_icmp_eq (tgt := 143) hx hb dX2_object_136 (by decide) (fun c25 => ?_) (fun c25 => ?_)
                    · rw [if_pos c25] at hf
                      refine lv_iconst (v := 0) hx hb dX2_object_143 (by decide) ?_
                      obtain ⟨h1, h2⟩ := Prod.mk.inj (Option.some.inj hf)
                      subst h1
                      subst h2
                      exact mm_reti F hH hr hlocks rfl rfl dX2_object_144
                    · rw [if_neg c25] at hf
                      refine lv_iconst (v := 1) hx hb dX2_object_139 (by decide) ?_
                      refine lv_goto (tgt := 144) hx hb dX2_object_140 (by decide) ?_
                      obtain ⟨h1, h2⟩ := Prod.mk.inj (Option.some.inj hf)
                      subst h1
                      subst h2
                      exact mm_reti F hH hr hlocks rfl rfl dX2_object_144
    · rw [if_pos c4] at hf
      refine lv_ldc (v := (-1000002)) hx hb hown (hts _ q1110) dX2_object_21 ?_
      obtain ⟨h1, h2⟩ := Prod.mk.inj (Option.some.inj hf)
      subst h1
      subst h2
      exact mm_reti F hH hr hlocks rfl rfl dX2_object_23
/-! IslandHeapModel.objectFrom(I)I -/
abbrev rm_X2_objectFrom : Room := { frames := 0, cells := 0, slots := 0, locals := 0 }
set_option maxHeartbeats 4000000 in
theorem w_X2_objectFrom_2 {p : Program} {l : Launch} {e : Env} {s : State} {m : MethodId} {av : Array Value} {below : List Frame} {meth : Method} {c : Code} {G : mm_G} {rr : Int32} {n : Nat} {σ : mm_M} {h0 : Nat} {x1 : Int32} (F : mm_F p s m av c RX2 cX2_objectFrom 3 G) (hr : meth.sig.returnType = (Option.some .int)) (hlocks : meth.locks = false) (hname : meth.name = yX2_objectFrom.name) (IH2 : ∀ (x2 : Int32) (H : Heap) (locs : List Loc) (ls : Array Slot), mm_H G s σ H locs → lv_has ls 3 [(0, .ref h0), (1, .int x1), (2, .int x2)] → itn (s_X2_objectFrom h0 x1 σ) n x2 = some rr → W p l e rm_X2_objectFrom s m av below meth c H locs 0 0 (MQ below (mm_Qi G rr σ) av s 0 0 (mm_A G)) (F0 m 2 ls []))  (x2 : Int32)  (hf : evn (s_X2_objectFrom h0 x1 σ) n (g_X2_objectFrom_2 h0 x1 x2 σ) = some rr) {H : Heap} {locs : List Loc} {ls : Array Slot} (hH : mm_H G s σ H locs) (hl : lv_has ls 3 [(0, .ref h0), (1, .int x1), (2, .int x2)]) : W p l e rm_X2_objectFrom s m av below meth c H locs 0 0 (MQ below (mm_Qi G rr σ) av s 0 0 (mm_A G)) (F0 m 2 ls []) := by
  have hx := F.1
  have hb := F.2.1
  have hml := F.2.2.1
  have hown := F.2.2.2.1
  have hts := F.2.2.2.2.1
  unfold g_X2_objectFrom_2 at hf
  refine lv_iload_n hx hb dX2_objectFrom_2 rfl (lv_at hl 2 rfl) ?_
  refine lv_aload_n hx hb dX2_objectFrom_3 rfl (lv_at hl 0 rfl) ?_
  replace hf := evn_b1 hf
  obtain ⟨q1, e1, hf⟩ := hf
  refine mm_getA F hH mc_2 (k := 0) (by decide) (hts _ q1047) (fun _ h => h) e1 dX2_objectFrom_4 ?_
  refine lv_sipush (v := 1216) hx hb dX2_objectFrom_7 (by decide) ?_
  replace hf := evn_b1 hf
  obtain ⟨v2, e2, hf⟩ := hf
  refine mm_iald F hH e2 dX2_objectFrom_10 ?_
  refine lv_icmp_ge (tgt := 33) hx hb dX2_objectFrom_11 (by decide) (fun c3 => ?_) (fun c3 => ?_)
  · rw [if_pos c3] at hf
    refine lv_iconst (v := (-1)) hx hb dX2_objectFrom_33 (by decide) ?_
    rw [evn_r] at hf
    have h1 := Option.some.inj hf
    subst h1
    exact mm_reti F hH hr hlocks rfl rfl dX2_objectFrom_34
  · rw [if_neg c3] at hf
    refine lv_aload_n hx hb dX2_objectFrom_14 rfl (lv_at hl 0 rfl) ?_
    replace hf := evn_b1 hf
    obtain ⟨q4, e3, hf⟩ := hf
    refine mm_getA F hH mc_2 (k := 0) (by decide) (hts _ q1047) (fun _ h => h) e3 dX2_objectFrom_15 ?_
    refine lv_iconst (v := 0) hx hb dX2_objectFrom_18 (by decide) ?_
    refine lv_iload_n hx hb dX2_objectFrom_19 rfl (lv_at hl 2 rfl) ?_
    refine lv_iadd hx hb dX2_objectFrom_20 ?_
    replace hf := evn_b1 hf
    obtain ⟨v5, e4, hf⟩ := hf
    refine mm_iald F hH e4 dX2_objectFrom_21 ?_
    refine lv_if_le (tgt := 27) hx hb dX2_objectFrom_22 (by decide) (fun c6 => ?_) (fun c6 => ?_)
    · rw [if_pos c6] at hf
      refine lv_iinc (v := x2 + (1 : Int32)) (lv' := [(2, .int (x2 + (1 : Int32))), (0, .ref h0), (1, .int x1)]) hx hb dX2_objectFrom_27 hl (k := 2) rfl rfl (by decide) rfl (fun ls hl => ?_)
      refine lv_goto (tgt := 2) hx hb dX2_objectFrom_30 (by decide) ?_
      rw [evn_l] at hf
      exact IH2 (x2 + (1 : Int32)) _ _ _ hH (lv_sub hl [1, 2, 0] rfl) hf
    · rw [if_neg c6] at hf
      refine lv_iload_n hx hb dX2_objectFrom_25 rfl (lv_at hl 2 rfl) ?_
      rw [evn_r] at hf
      have h1 := Option.some.inj hf
      subst h1
      exact mm_reti F hH hr hlocks rfl rfl dX2_objectFrom_26
set_option maxHeartbeats 4000000 in
theorem w_X2_objectFrom_0 {p : Program} {l : Launch} {e : Env} {s : State} {m : MethodId} {av : Array Value} {below : List Frame} {meth : Method} {c : Code} {G : mm_G} {rr : Int32} {n : Nat} {σ : mm_M} {h0 : Nat} {x1 : Int32} (F : mm_F p s m av c RX2 cX2_objectFrom 3 G) (hr : meth.sig.returnType = (Option.some .int)) (hlocks : meth.locks = false) (hname : meth.name = yX2_objectFrom.name) (IH2 : ∀ (x2 : Int32) (H : Heap) (locs : List Loc) (ls : Array Slot), mm_H G s σ H locs → lv_has ls 3 [(0, .ref h0), (1, .int x1), (2, .int x2)] → itn (s_X2_objectFrom h0 x1 σ) n x2 = some rr → W p l e rm_X2_objectFrom s m av below meth c H locs 0 0 (MQ below (mm_Qi G rr σ) av s 0 0 (mm_A G)) (F0 m 2 ls []))    (hf : evn (s_X2_objectFrom h0 x1 σ) n (g_X2_objectFrom_0 h0 x1 σ) = some rr) {H : Heap} {locs : List Loc} {ls : Array Slot} (hH : mm_H G s σ H locs) (hl : lv_has ls 3 [(0, .ref h0), (1, .int x1)]) : W p l e rm_X2_objectFrom s m av below meth c H locs 0 0 (MQ below (mm_Qi G rr σ) av s 0 0 (mm_A G)) (F0 m 0 ls []) := by
  have hx := F.1
  have hb := F.2.1
  have hml := F.2.2.1
  have hown := F.2.2.2.1
  have hts := F.2.2.2.2.1
  unfold g_X2_objectFrom_0 at hf
  refine lv_iload_n hx hb dX2_objectFrom_0 rfl (lv_at hl 1 rfl) ?_
  refine lv_istore_n (lv' := [(2, .int x1), (0, .ref h0), (1, .int x1)]) hx hb dX2_objectFrom_1 rfl hl (by decide) rfl (fun ls hl => ?_)
  rw [evn_l] at hf
  exact IH2 x1 _ _ _ hH (lv_sub hl [1, 2, 0] rfl) hf
set_option maxHeartbeats 4000000 in
theorem l_X2_objectFrom {p : Program} {l : Launch} {e : Env} {s : State} {m : MethodId} {av : Array Value} {below : List Frame} {meth : Method} {c : Code} {G : mm_G} {rr : Int32} {σ : mm_M} {h0 : Nat} {x1 : Int32} (F : mm_F p s m av c RX2 cX2_objectFrom 3 G) (hr : meth.sig.returnType = (Option.some .int)) (hlocks : meth.locks = false) (hname : meth.name = yX2_objectFrom.name) : ∀ n : Nat, (∀ (x2 : Int32) (H : Heap) (locs : List Loc) (ls : Array Slot), mm_H G s σ H locs → lv_has ls 3 [(0, .ref h0), (1, .int x1), (2, .int x2)] → itn (s_X2_objectFrom h0 x1 σ) n x2 = some rr → W p l e rm_X2_objectFrom s m av below meth c H locs 0 0 (MQ below (mm_Qi G rr σ) av s 0 0 (mm_A G)) (F0 m 2 ls [])) := by
  intro n
  induction n with
  | zero =>
    exact fun x2 H locs ls hH hl hf => by cases hf
  | succ n ih =>
    have IH2 := ih
    intro x2 H locs ls hH hl hf
    rw [itn_s] at hf
    exact w_X2_objectFrom_2 F hr hlocks hname IH2 x2 hf hH hl
set_option maxHeartbeats 4000000 in
theorem m_X2_objectFrom (l : Launch) (G : mm_G) (h0 : Nat) (x1 : Int32) (σ : mm_M) (rr : Int32) (hf : f_X2_objectFrom h0 x1 σ = some rr) : Met l yX2_objectFrom (ws_ yX2_objectFrom cX2_objectFrom 3 ((Option.some .int))) rm_X2_objectFrom (mm_Pc G [.ref h0, .int x1] σ) (mm_Qi G rr σ) 0 0 (mm_A G) := by
  refine mm_met (by decide) rfl rfl (by  exact Nat.le_of_ble_eq_true rfl) (fun p e s m below meth c ls F hH hr hlocks hname hl => ?_)
  have hl : lv_has ls 3 [(0, .ref h0), (1, .int x1)] := by  exact hl
  have F : mm_F p s m _ c RX2 cX2_objectFrom 3 G := F
  unfold f_X2_objectFrom at hf
  obtain ⟨n, hf⟩ := lgo_i hf
  have IH := l_X2_objectFrom (l := l) (e := e) (below := below) (rr := rr) (σ := σ) (h0 := h0) (x1 := x1) F hr hlocks hname n
  exact w_X2_objectFrom_0 F hr hlocks hname IH  hf hH (lv_sub hl [0, 1] rfl)
/-! IslandHeapModel.next(I)I -/
abbrev rm_X2_next : Room := { frames := 2, cells := 0, slots := 0, locals := 44 }
set_option maxHeartbeats 4000000 in
theorem m_X2_next (l : Launch) (G : mm_G) (h0 : Nat) (x1 : Int32) (σ : mm_M) (rr : Int32) (hf : f_X2_next h0 x1 σ = some rr) : Met l yX2_next (ws_ yX2_next cX2_next 3 ((Option.some .int))) rm_X2_next (mm_Pc G [.ref h0, .int x1] σ) (mm_Qi G rr σ) 0 0 (mm_A G) := by
  refine mm_met (by decide) rfl rfl (by  exact Nat.le_of_ble_eq_true rfl) (fun p e s m below meth c ls F hH hr hlocks hname hl => ?_)
  have hl : lv_has ls 3 [(0, .ref h0), (1, .int x1)] := by  exact hl
  have F : mm_F p s m _ c RX2 cX2_next 3 G := F
  have hx := F.1
  have hb := F.2.1
  have hml := F.2.2.1
  have hown := F.2.2.2.1
  have hts := F.2.2.2.2.1
  unfold f_X2_next at hf
  refine lv_iload_n hx hb dX2_next_0 rfl (lv_at hl 1 rfl) ?_
  refine lv_iconst (v := (-1)) hx hb dX2_next_1 (by decide) ?_
  refine lv_icmp_ne (tgt := 11) hx hb dX2_next_2 (by decide) (fun c1 => ?_) (fun c1 => ?_)
  · rw [if_neg c1] at hf
    refine lv_aload_n hx hb dX2_next_11 rfl (lv_at hl 0 rfl) ?_
    refine lv_iload_n hx hb dX2_next_12 rfl (lv_at hl 1 rfl) ?_
    replace hf := b1_i hf
    obtain ⟨u, e1, hf⟩ := hf
    obtain ⟨fs, ek⟩ := ck_i e1
    replace hf := b1_i hf
    obtain ⟨v2, e2, hf⟩ := hf
    refine mm_ci (va_runV (As := [.int x1]) (rest := []) ⟨hx, hb, hml, hown, hts⟩ (m_X2_objectOf l G h0 x1 σ v2 e2) (cwV 1 hts (lw_V q1124 q1126 qs34 q67 q1127) rfl rfl rfl (by decide +kernel) ⟨Nat.le_of_ble_eq_true rfl, Nat.le_of_ble_eq_true rfl⟩) (mm_preV F.2.2.2.2.2 hH (ci := 2) rfl ek) rfl rfl hl.1 rfl (lv_room (Nat.le_of_ble_eq_true rfl)) dX2_next_13 ⟨Nat.le_of_ble_eq_true rfl, Nat.le_of_ble_eq_true rfl⟩) hH (fun H locs hH => ?_)
    refine lv_istore_n (lv' := [(2, .int v2), (0, .ref h0), (1, .int x1)]) hx hb dX2_next_16 rfl hl (by decide) rfl (fun ls hl => ?_)
    refine lv_iload_n hx hb dX2_next_17 rfl (lv_at hl 0 rfl) ?_
    refine lv_iconst (v := (-1)) hx hb dX2_next_18 (by decide) ?_
    refine lv_icmp_ne (tgt := 27) hx hb dX2_next_19 (by decide) (fun c3 => ?_) (fun c3 => ?_)
    · rw [if_neg c3] at hf
      refine lv_aload_n hx hb dX2_next_27 rfl (lv_at hl 1 rfl) ?_
      refine lv_iload_n hx hb dX2_next_28 rfl (lv_at hl 0 rfl) ?_
      refine lv_iconst (v := 1) hx hb dX2_next_29 (by decide) ?_
      refine lv_iadd hx hb dX2_next_30 ?_
      replace hf := b1_i hf
      obtain ⟨u, e3, hf⟩ := hf
      obtain ⟨fs, ek⟩ := ck_i e3
      replace hf := b1_i hf
      obtain ⟨v4, e4, hf⟩ := hf
      refine mm_ci (va_runV (As := [.int (v2 + (1 : Int32))]) (rest := []) ⟨hx, hb, hml, hown, hts⟩ (m_X2_objectFrom l G h0 (v2 + (1 : Int32)) σ v4 e4) (cwV 1 hts (lw_V q1148 q1150 qs39 q67 q1151) rfl rfl rfl (by decide +kernel) ⟨Nat.le_of_ble_eq_true rfl, Nat.le_of_ble_eq_true rfl⟩) (mm_preV F.2.2.2.2.2 hH (ci := 2) rfl ek) rfl rfl hl.1 rfl (lv_room (Nat.le_of_ble_eq_true rfl)) dX2_next_31 ⟨Nat.le_of_ble_eq_true rfl, Nat.le_of_ble_eq_true rfl⟩) hH (fun H locs hH => ?_)
      have h1 := Option.some.inj hf
      subst h1
      exact mm_reti F hH hr hlocks rfl rfl dX2_next_34
    · rw [if_pos c3] at hf
      refine lv_ldc (v := (-1000002)) hx hb hown (hts _ q1110) dX2_next_22 ?_
      refine lv_goto (tgt := 34) hx hb dX2_next_24 (by decide) ?_
      have h1 := Option.some.inj hf
      subst h1
      exact mm_reti F hH hr hlocks rfl rfl dX2_next_34
  · rw [if_pos c1] at hf
    refine lv_aload_n hx hb dX2_next_5 rfl (lv_at hl 0 rfl) ?_
    refine lv_iconst (v := 0) hx hb dX2_next_6 (by decide) ?_
    replace hf := b1_i hf
    obtain ⟨u, e5, hf⟩ := hf
    obtain ⟨fs, ek⟩ := ck_i e5
    replace hf := b1_i hf
    obtain ⟨v5, e6, hf⟩ := hf
    refine mm_ci (va_runV (As := [.int (0 : Int32)]) (rest := []) ⟨hx, hb, hml, hown, hts⟩ (m_X2_objectFrom l G h0 (0 : Int32) σ v5 e6) (cwV 1 hts (lw_V q1148 q1150 qs39 q67 q1151) rfl rfl rfl (by decide +kernel) ⟨Nat.le_of_ble_eq_true rfl, Nat.le_of_ble_eq_true rfl⟩) (mm_preV F.2.2.2.2.2 hH (ci := 2) rfl ek) rfl rfl hl.1 rfl (lv_room (Nat.le_of_ble_eq_true rfl)) dX2_next_7 ⟨Nat.le_of_ble_eq_true rfl, Nat.le_of_ble_eq_true rfl⟩) hH (fun H locs hH => ?_)
    have h1 := Option.some.inj hf
    subst h1
    exact mm_reti F hH hr hlocks rfl rfl dX2_next_10
/-! IslandHeapModel.isReference(I)Z -/
abbrev rm_X2_isReference : Room := { frames := 2, cells := 0, slots := 0, locals := 44 }
set_option maxHeartbeats 4000000 in
theorem m_X2_isReference (l : Launch) (G : mm_G) (h0 : Nat) (x1 : Int32) (σ : mm_M) (rr : Int32) (hf : f_X2_isReference h0 x1 σ = some rr) : Met l yX2_isReference (ws_ yX2_isReference cX2_isReference 2 ((Option.some .boolean))) rm_X2_isReference (mm_Pc G [.ref h0, .int x1] σ) (mm_Qi G rr σ) 0 0 (mm_A G) := by
  refine mm_met (by decide) rfl rfl (by  exact Nat.le_of_ble_eq_true rfl) (fun p e s m below meth c ls F hH hr hlocks hname hl => ?_)
  have hl : lv_has ls 2 [(0, .ref h0), (1, .int x1)] := by  exact hl
  have F : mm_F p s m _ c RX2 cX2_isReference 2 G := F
  have hx := F.1
  have hb := F.2.1
  have hml := F.2.2.1
  have hown := F.2.2.2.1
  have hts := F.2.2.2.2.1
  unfold f_X2_isReference at hf
  refine lv_iload_n hx hb dX2_isReference_0 rfl (lv_at hl 1 rfl) ?_
  refine lv_iconst (v := (-1)) hx hb dX2_isReference_1 (by decide) ?_
  refine lv_icmp_eq (tgt := 14) hx hb dX2_isReference_2 (by decide) (fun c1 => ?_) (fun c1 => ?_)
  · rw [if_pos c1] at hf
    refine lv_iconst (v := 1) hx hb dX2_isReference_14 (by decide) ?_
    refine lv_goto (tgt := 19) hx hb dX2_isReference_15 (by decide) ?_
    have h1 := Option.some.inj hf
    subst h1
    exact mm_reti F hH hr hlocks rfl rfl dX2_isReference_19
  · rw [if_neg c1] at hf
    refine lv_aload_n hx hb dX2_isReference_5 rfl (lv_at hl 0 rfl) ?_
    refine lv_iload_n hx hb dX2_isReference_6 rfl (lv_at hl 1 rfl) ?_
    replace hf := b1_i hf
    obtain ⟨u, e1, hf⟩ := hf
    obtain ⟨fs, ek⟩ := ck_i e1
    replace hf := b1_i hf
    obtain ⟨v2, e2, hf⟩ := hf
    refine mm_ci (va_runV (As := [.int x1]) (rest := []) ⟨hx, hb, hml, hown, hts⟩ (m_X2_objectOf l G h0 x1 σ v2 e2) (cwV 1 hts (lw_V q1124 q1126 qs34 q67 q1127) rfl rfl rfl (by decide +kernel) ⟨Nat.le_of_ble_eq_true rfl, Nat.le_of_ble_eq_true rfl⟩) (mm_preV F.2.2.2.2.2 hH (ci := 2) rfl ek) rfl rfl hl.1 rfl (lv_room (Nat.le_of_ble_eq_true rfl)) dX2_isReference_7 ⟨Nat.le_of_ble_eq_true rfl, Nat.le_of_ble_eq_true rfl⟩) hH (fun H locs hH => ?_)
    refine lv_iconst (v := (-1)) hx hb dX2_isReference_10 (by decide) ?_
    refine lv_icmp_eq (tgt := 18) hx hb dX2_isReference_11 (by decide) (fun c3 => ?_) (fun c3 => ?_)
    · rw [if_pos c3] at hf
      refine lv_iconst (v := 0) hx hb dX2_isReference_18 (by decide) ?_
      have h1 := Option.some.inj hf
      subst h1
      exact mm_reti F hH hr hlocks rfl rfl dX2_isReference_19
    · rw [if_neg c3] at hf
      refine lv_iconst (v := 1) hx hb dX2_isReference_14 (by decide) ?_
      refine lv_goto (tgt := 19) hx hb dX2_isReference_15 (by decide) ?_
      have h1 := Option.some.inj hf
      subst h1
      exact mm_reti F hH hr hlocks rfl rfl dX2_isReference_19
/-! IslandHeapModel.setField(III)I -/
abbrev rm_X2_setField : Room := { frames := 3, cells := 0, slots := 0, locals := 65 }
set_option maxHeartbeats 4000000 in
theorem m_X2_setField (l : Launch) (G : mm_G) (h0 : Nat) (x1 : Int32) (x2 : Int32) (x3 : Int32) (σ : mm_M) (σf : mm_M) (rr : Int32) (hf : f_X2_setField h0 x1 x2 x3 σ = some (rr, σf)) : Met l yX2_setField (ws_ yX2_setField cX2_setField 6 ((Option.some .int))) rm_X2_setField (mm_Pc G [.ref h0, .int x1, .int x2, .int x3] σ) (mm_Qi G rr σf) 0 0 (mm_A G) := by
  refine mm_met (by decide) rfl rfl (by  exact Nat.le_of_ble_eq_true rfl) (fun p e s m below meth c ls F hH hr hlocks hname hl => ?_)
  have hl : lv_has ls 6 [(0, .ref h0), (1, .int x1), (2, .int x2), (3, .int x3)] := by  exact hl
  have F : mm_F p s m _ c RX2 cX2_setField 6 G := F
  have hx := F.1
  have hb := F.2.1
  have hml := F.2.2.1
  have hown := F.2.2.2.1
  have hts := F.2.2.2.2.1
  unfold f_X2_setField at hf
  refine lv_aload_n hx hb dX2_setField_0 rfl (lv_at hl 0 rfl) ?_
  refine lv_iload_n hx hb dX2_setField_1 rfl (lv_at hl 1 rfl) ?_
  replace hf := b1_i hf
  obtain ⟨u, e1, hf⟩ := hf
  obtain ⟨fs, ek⟩ := ck_i e1
  replace hf := b1_i hf
  obtain ⟨v1, e2, hf⟩ := hf
  refine mm_ci (va_runV (As := [.int x1]) (rest := []) ⟨hx, hb, hml, hown, hts⟩ (m_X2_objectOf l G h0 x1 σ v1 e2) (cwV 1 hts (lw_V q1124 q1126 qs34 q67 q1127) rfl rfl rfl (by decide +kernel) ⟨Nat.le_of_ble_eq_true rfl, Nat.le_of_ble_eq_true rfl⟩) (mm_preV F.2.2.2.2.2 hH (ci := 2) rfl ek) rfl rfl hl.1 rfl (lv_room (Nat.le_of_ble_eq_true rfl)) dX2_setField_2 ⟨Nat.le_of_ble_eq_true rfl, Nat.le_of_ble_eq_true rfl⟩) hH (fun H locs hH => ?_)
  refine lv_istore (lv' := [(4, .int v1), (0, .ref h0), (1, .int x1), (2, .int x2), (3, .int x3)]) hx hb dX2_setField_5 hl (by decide) rfl (fun ls hl => ?_)
  refine lv_iload hx hb dX2_setField_7 (lv_at hl 0 rfl) ?_
  refine lv_iconst (v := (-1)) hx hb dX2_setField_9 (by decide) ?_
  refine lv_icmp_eq (tgt := 42) hx hb dX2_setField_10 (by decide) (fun c2 => ?_) (fun c2 => ?_)
  · rw [if_pos c2] at hf
    refine lv_ldc (v := (-1000002)) hx hb hown (hts _ q1110) dX2_setField_42 ?_
    obtain ⟨h1, h2⟩ := Prod.mk.inj (Option.some.inj hf)
    subst h1
    subst h2
    exact mm_reti F hH hr hlocks rfl rfl dX2_setField_44
  · rw [if_neg c2] at hf
    refine lv_iload_n hx hb dX2_setField_13 rfl (lv_at hl 3 rfl) ?_
    refine lv_iconst (v := 0) hx hb dX2_setField_14 (by decide) ?_
    refine lv_aload_n hx hb dX2_setField_15 rfl (lv_at hl 1 rfl) ?_
    replace hf := b1_i hf
    obtain ⟨q3, e3, hf⟩ := hf
    refine mm_getA F hH mc_2 (k := 0) (by decide) (hts _ q1047) (fun _ h => h) e3 dX2_setField_16 ?_
    refine lv_sipush (v := 200) hx hb dX2_setField_19 (by decide) ?_
    refine lv_iload hx hb dX2_setField_22 (lv_at hl 0 rfl) ?_
    refine lv_iadd hx hb dX2_setField_24 ?_
    replace hf := b1_i hf
    obtain ⟨v4, e4, hf⟩ := hf
    refine mm_iald F hH e4 dX2_setField_25 ?_
    refine lv_iconst (v := 1) hx hb dX2_setField_26 (by decide) ?_
    refine lv_isub hx hb dX2_setField_27 ?_
    replace hf := b1_i hf
    obtain ⟨v5, e5, hf⟩ := hf
    refine mm_ci (va_runS (As := [.int x2, .int (0 : Int32), .int (v4 - (1 : Int32))]) (rest := []) ⟨hx, hb, hml, hown, hts⟩ (m_X2_in l G x2 (0 : Int32) (v4 - (1 : Int32)) σ v5 e5) (va_cwS 3 hts (lw_S q1107 q1108 q67 q1109) rfl rfl rfl (by decide +kernel) ⟨Nat.le_of_ble_eq_true rfl, Nat.le_of_ble_eq_true rfl⟩) (mm_preS F.2.2.2.2.2 hH) rfl rfl hl.1 rfl (lv_room (Nat.le_of_ble_eq_true rfl)) dX2_setField_28 ⟨Nat.le_of_ble_eq_true rfl, Nat.le_of_ble_eq_true rfl⟩) hH (fun H locs hH => ?_)
    refine lv_if_eq (tgt := 42) hx hb dX2_setField_31 (by decide) (fun c6 => ?_) (fun c6 => ?_)
    · rw [if_pos c6] at hf
      refine lv_ldc (v := (-1000002)) hx hb hown (hts _ q1110) dX2_setField_42 ?_
      obtain ⟨h1, h2⟩ := Prod.mk.inj (Option.some.inj hf)
      subst h1
      subst h2
      exact mm_reti F hH hr hlocks rfl rfl dX2_setField_44
    · rw [if_neg c6] at hf
      refine lv_aload_n hx hb dX2_setField_34 rfl (lv_at hl 1 rfl) ?_
      refine lv_iload_n hx hb dX2_setField_35 rfl (lv_at hl 4 rfl) ?_
      replace hf := b1_i hf
      obtain ⟨u, e6, hf⟩ := hf
      obtain ⟨fs, ek⟩ := ck_i e6
      replace hf := b1_i hf
      obtain ⟨v7, e7, hf⟩ := hf
      refine mm_ci (va_runV (As := [.int x3]) (rest := []) ⟨hx, hb, hml, hown, hts⟩ (m_X2_isReference l G h0 x3 σ v7 e7) (cwV 1 hts (lw_V q1156 q1158 qs40 q67 q1159) rfl rfl rfl (by decide +kernel) ⟨Nat.le_of_ble_eq_true rfl, Nat.le_of_ble_eq_true rfl⟩) (mm_preV F.2.2.2.2.2 hH (ci := 2) rfl ek) rfl rfl hl.1 rfl (lv_room (Nat.le_of_ble_eq_true rfl)) dX2_setField_36 ⟨Nat.le_of_ble_eq_true rfl, Nat.le_of_ble_eq_true rfl⟩) hH (fun H locs hH => ?_)
      refine lv_if_ne (tgt := 45) hx hb dX2_setField_39 (by decide) (fun c8 => ?_) (fun c8 => ?_)
      · rw [if_neg c8] at hf
        refine lv_aload_n hx hb dX2_setField_45 rfl (lv_at hl 1 rfl) ?_
        replace hf := b1_i hf
        obtain ⟨q9, e8, hf⟩ := hf
        refine mm_getA F hH mc_2 (k := 0) (by decide) (hts _ q1047) (fun _ h => h) e8 dX2_setField_46 ?_
        refine lv_sipush (v := 800) hx hb dX2_setField_49 (by decide) ?_
        refine lv_iload hx hb dX2_setField_52 (lv_at hl 0 rfl) ?_
        refine lv_iadd hx hb dX2_setField_54 ?_
        refine lv_iconst (v := 1) hx hb dX2_setField_55 (by decide) ?_
        refine lv_iadd hx hb dX2_setField_56 ?_
        refine lv_iload_n hx hb dX2_setField_57 rfl (lv_at hl 3 rfl) ?_
        refine lv_iadd hx hb dX2_setField_58 ?_
        replace hf := b1_i hf
        obtain ⟨v10, e9, hf⟩ := hf
        refine mm_iald F hH e9 dX2_setField_59 ?_
        refine lv_istore (lv' := [(5, .int v10), (4, .int v1), (0, .ref h0), (1, .int x1), (2, .int x2), (3, .int x3)]) hx hb dX2_setField_60 hl (by decide) rfl (fun ls hl => ?_)
        refine lv_aload_n hx hb dX2_setField_62 rfl (lv_at hl 2 rfl) ?_
        replace hf := b1_i hf
        obtain ⟨q11, e10, hf⟩ := hf
        refine mm_getA F hH mc_2 (k := 0) (by decide) (hts _ q1047) (fun _ h => h) e10 dX2_setField_63 ?_
        refine lv_sipush (v := 800) hx hb dX2_setField_66 (by decide) ?_
        refine lv_iload hx hb dX2_setField_69 (lv_at hl 1 rfl) ?_
        refine lv_iadd hx hb dX2_setField_71 ?_
        refine lv_iconst (v := 1) hx hb dX2_setField_72 (by decide) ?_
        refine lv_iadd hx hb dX2_setField_73 ?_
        refine lv_iload_n hx hb dX2_setField_74 rfl (lv_at hl 4 rfl) ?_
        refine lv_iadd hx hb dX2_setField_75 ?_
        refine lv_iload_n hx hb dX2_setField_76 rfl (lv_at hl 5 rfl) ?_
        replace hf := b1_i hf
        obtain ⟨σ12, e11, hf⟩ := hf
        refine mm_iast F hH e11 dX2_setField_77 (fun H locs hH => ?_)
        refine lv_iload hx hb dX2_setField_78 (lv_at hl 0 rfl) ?_
        obtain ⟨h1, h2⟩ := Prod.mk.inj (Option.some.inj hf)
        subst h1
        subst h2
        exact mm_reti F hH hr hlocks rfl rfl dX2_setField_80
      · rw [if_pos c8] at hf
        refine lv_ldc (v := (-1000002)) hx hb hown (hts _ q1110) dX2_setField_42 ?_
        obtain ⟨h1, h2⟩ := Prod.mk.inj (Option.some.inj hf)
        subst h1
        subst h2
        exact mm_reti F hH hr hlocks rfl rfl dX2_setField_44
/-! IslandHeapModel.field(II)I -/
abbrev rm_X2_field : Room := { frames := 2, cells := 0, slots := 0, locals := 44 }
set_option maxHeartbeats 4000000 in
theorem m_X2_field (l : Launch) (G : mm_G) (h0 : Nat) (x1 : Int32) (x2 : Int32) (σ : mm_M) (rr : Int32) (hf : f_X2_field h0 x1 x2 σ = some rr) : Met l yX2_field (ws_ yX2_field cX2_field 4 ((Option.some .int))) rm_X2_field (mm_Pc G [.ref h0, .int x1, .int x2] σ) (mm_Qi G rr σ) 0 0 (mm_A G) := by
  refine mm_met (by decide) rfl rfl (by  exact Nat.le_of_ble_eq_true rfl) (fun p e s m below meth c ls F hH hr hlocks hname hl => ?_)
  have hl : lv_has ls 4 [(0, .ref h0), (1, .int x1), (2, .int x2)] := by  exact hl
  have F : mm_F p s m _ c RX2 cX2_field 4 G := F
  have hx := F.1
  have hb := F.2.1
  have hml := F.2.2.1
  have hown := F.2.2.2.1
  have hts := F.2.2.2.2.1
  unfold f_X2_field at hf
  refine lv_aload_n hx hb dX2_field_0 rfl (lv_at hl 0 rfl) ?_
  refine lv_iload_n hx hb dX2_field_1 rfl (lv_at hl 1 rfl) ?_
  replace hf := b1_i hf
  obtain ⟨u, e1, hf⟩ := hf
  obtain ⟨fs, ek⟩ := ck_i e1
  replace hf := b1_i hf
  obtain ⟨v1, e2, hf⟩ := hf
  refine mm_ci (va_runV (As := [.int x1]) (rest := []) ⟨hx, hb, hml, hown, hts⟩ (m_X2_objectOf l G h0 x1 σ v1 e2) (cwV 1 hts (lw_V q1124 q1126 qs34 q67 q1127) rfl rfl rfl (by decide +kernel) ⟨Nat.le_of_ble_eq_true rfl, Nat.le_of_ble_eq_true rfl⟩) (mm_preV F.2.2.2.2.2 hH (ci := 2) rfl ek) rfl rfl hl.1 rfl (lv_room (Nat.le_of_ble_eq_true rfl)) dX2_field_2 ⟨Nat.le_of_ble_eq_true rfl, Nat.le_of_ble_eq_true rfl⟩) hH (fun H locs hH => ?_)
  refine lv_istore_n (lv' := [(3, .int v1), (0, .ref h0), (1, .int x1), (2, .int x2)]) hx hb dX2_field_5 rfl hl (by decide) rfl (fun ls hl => ?_)
  refine lv_iload_n hx hb dX2_field_6 rfl (lv_at hl 0 rfl) ?_
  refine lv_iconst (v := (-1)) hx hb dX2_field_7 (by decide) ?_
  refine lv_icmp_eq (tgt := 31) hx hb dX2_field_8 (by decide) (fun c2 => ?_) (fun c2 => ?_)
  · rw [if_pos c2] at hf
    refine lv_ldc (v := (-1000002)) hx hb hown (hts _ q1110) dX2_field_31 ?_
    refine lv_goto (tgt := 50) hx hb dX2_field_33 (by decide) ?_
    have h1 := Option.some.inj hf
    subst h1
    exact mm_reti F hH hr hlocks rfl rfl dX2_field_50
  · rw [if_neg c2] at hf
    refine lv_iload_n hx hb dX2_field_11 rfl (lv_at hl 3 rfl) ?_
    refine lv_iconst (v := 0) hx hb dX2_field_12 (by decide) ?_
    refine lv_aload_n hx hb dX2_field_13 rfl (lv_at hl 1 rfl) ?_
    replace hf := b1_i hf
    obtain ⟨q3, e3, hf⟩ := hf
    refine mm_getA F hH mc_2 (k := 0) (by decide) (hts _ q1047) (fun _ h => h) e3 dX2_field_14 ?_
    refine lv_sipush (v := 200) hx hb dX2_field_17 (by decide) ?_
    refine lv_iload_n hx hb dX2_field_20 rfl (lv_at hl 0 rfl) ?_
    refine lv_iadd hx hb dX2_field_21 ?_
    replace hf := b1_i hf
    obtain ⟨v4, e4, hf⟩ := hf
    refine mm_iald F hH e4 dX2_field_22 ?_
    refine lv_iconst (v := 1) hx hb dX2_field_23 (by decide) ?_
    refine lv_isub hx hb dX2_field_24 ?_
    replace hf := b1_i hf
    obtain ⟨v5, e5, hf⟩ := hf
    refine mm_ci (va_runS (As := [.int x2, .int (0 : Int32), .int (v4 - (1 : Int32))]) (rest := []) ⟨hx, hb, hml, hown, hts⟩ (m_X2_in l G x2 (0 : Int32) (v4 - (1 : Int32)) σ v5 e5) (va_cwS 3 hts (lw_S q1107 q1108 q67 q1109) rfl rfl rfl (by decide +kernel) ⟨Nat.le_of_ble_eq_true rfl, Nat.le_of_ble_eq_true rfl⟩) (mm_preS F.2.2.2.2.2 hH) rfl rfl hl.1 rfl (lv_room (Nat.le_of_ble_eq_true rfl)) dX2_field_25 ⟨Nat.le_of_ble_eq_true rfl, Nat.le_of_ble_eq_true rfl⟩) hH (fun H locs hH => ?_)
    refine lv_if_ne (tgt := 36) hx hb dX2_field_28 (by decide) (fun c6 => ?_) (fun c6 => ?_)
    · rw [if_neg c6] at hf
      refine lv_aload_n hx hb dX2_field_36 rfl (lv_at hl 1 rfl) ?_
      replace hf := b1_i hf
      obtain ⟨q7, e6, hf⟩ := hf
      refine mm_getA F hH mc_2 (k := 0) (by decide) (hts _ q1047) (fun _ h => h) e6 dX2_field_37 ?_
      refine lv_sipush (v := 800) hx hb dX2_field_40 (by decide) ?_
      refine lv_iload_n hx hb dX2_field_43 rfl (lv_at hl 0 rfl) ?_
      refine lv_iadd hx hb dX2_field_44 ?_
      refine lv_iconst (v := 1) hx hb dX2_field_45 (by decide) ?_
      refine lv_iadd hx hb dX2_field_46 ?_
      refine lv_iload_n hx hb dX2_field_47 rfl (lv_at hl 3 rfl) ?_
      refine lv_iadd hx hb dX2_field_48 ?_
      replace hf := b1_i hf
      obtain ⟨v8, e7, hf⟩ := hf
      refine mm_iald F hH e7 dX2_field_49 ?_
      have h1 := Option.some.inj hf
      subst h1
      exact mm_reti F hH hr hlocks rfl rfl dX2_field_50
    · rw [if_pos c6] at hf
      refine lv_ldc (v := (-1000002)) hx hb hown (hts _ q1110) dX2_field_31 ?_
      refine lv_goto (tgt := 50) hx hb dX2_field_33 (by decide) ?_
      have h1 := Option.some.inj hf
      subst h1
      exact mm_reti F hH hr hlocks rfl rfl dX2_field_50
/-! IslandHeapModel.setData(III)I -/
abbrev rm_X2_setData : Room := { frames := 2, cells := 0, slots := 0, locals := 44 }
set_option maxHeartbeats 4000000 in
theorem m_X2_setData (l : Launch) (G : mm_G) (h0 : Nat) (x1 : Int32) (x2 : Int32) (x3 : Int32) (σ : mm_M) (σf : mm_M) (rr : Int32) (hf : f_X2_setData h0 x1 x2 x3 σ = some (rr, σf)) : Met l yX2_setData (ws_ yX2_setData cX2_setData 7 ((Option.some .int))) rm_X2_setData (mm_Pc G [.ref h0, .int x1, .int x2, .int x3] σ) (mm_Qi G rr σf) 0 0 (mm_A G) := by
  refine mm_met (by decide) rfl rfl (by  exact Nat.le_of_ble_eq_true rfl) (fun p e s m below meth c ls F hH hr hlocks hname hl => ?_)
  have hl : lv_has ls 7 [(0, .ref h0), (1, .int x1), (2, .int x2), (3, .int x3)] := by  exact hl
  have F : mm_F p s m _ c RX2 cX2_setData 7 G := F
  have hx := F.1
  have hb := F.2.1
  have hml := F.2.2.1
  have hown := F.2.2.2.1
  have hts := F.2.2.2.2.1
  unfold f_X2_setData at hf
  refine lv_aload_n hx hb dX2_setData_0 rfl (lv_at hl 0 rfl) ?_
  refine lv_iload_n hx hb dX2_setData_1 rfl (lv_at hl 1 rfl) ?_
  replace hf := b1_i hf
  obtain ⟨u, e1, hf⟩ := hf
  obtain ⟨fs, ek⟩ := ck_i e1
  replace hf := b1_i hf
  obtain ⟨v1, e2, hf⟩ := hf
  refine mm_ci (va_runV (As := [.int x1]) (rest := []) ⟨hx, hb, hml, hown, hts⟩ (m_X2_objectOf l G h0 x1 σ v1 e2) (cwV 1 hts (lw_V q1124 q1126 qs34 q67 q1127) rfl rfl rfl (by decide +kernel) ⟨Nat.le_of_ble_eq_true rfl, Nat.le_of_ble_eq_true rfl⟩) (mm_preV F.2.2.2.2.2 hH (ci := 2) rfl ek) rfl rfl hl.1 rfl (lv_room (Nat.le_of_ble_eq_true rfl)) dX2_setData_2 ⟨Nat.le_of_ble_eq_true rfl, Nat.le_of_ble_eq_true rfl⟩) hH (fun H locs hH => ?_)
  refine lv_istore (lv' := [(4, .int v1), (0, .ref h0), (1, .int x1), (2, .int x2), (3, .int x3)]) hx hb dX2_setData_5 hl (by decide) rfl (fun ls hl => ?_)
  refine lv_iload hx hb dX2_setData_7 (lv_at hl 0 rfl) ?_
  refine lv_iconst (v := (-1)) hx hb dX2_setData_9 (by decide) ?_
  refine lv_icmp_eq (tgt := 40) hx hb dX2_setData_10 (by decide) (fun c2 => ?_) (fun c2 => ?_)
  · rw [if_pos c2] at hf
    refine lv_ldc (v := (-1000002)) hx hb hown (hts _ q1110) dX2_setData_40 ?_
    obtain ⟨h1, h2⟩ := Prod.mk.inj (Option.some.inj hf)
    subst h1
    subst h2
    exact mm_reti F hH hr hlocks rfl rfl dX2_setData_42
  · rw [if_neg c2] at hf
    refine lv_iload_n hx hb dX2_setData_13 rfl (lv_at hl 3 rfl) ?_
    refine lv_iconst (v := 0) hx hb dX2_setData_14 (by decide) ?_
    refine lv_aload_n hx hb dX2_setData_15 rfl (lv_at hl 1 rfl) ?_
    refine lv_iload hx hb dX2_setData_16 (lv_at hl 0 rfl) ?_
    replace hf := b1_i hf
    obtain ⟨u, e3, hf⟩ := hf
    obtain ⟨fs, ek⟩ := ck_i e3
    replace hf := b1_i hf
    obtain ⟨v3, e4, hf⟩ := hf
    refine mm_ci (va_runV (As := [.int v1]) (rest := [.int (0 : Int32), .int x2]) ⟨hx, hb, hml, hown, hts⟩ (m_X2_dataOf l G h0 v1 σ v3 e4) (cwV 1 hts (lw_V q1128 q1130 qs35 q67 q1131) rfl rfl rfl (by decide +kernel) ⟨Nat.le_of_ble_eq_true rfl, Nat.le_of_ble_eq_true rfl⟩) (mm_preV F.2.2.2.2.2 hH (ci := 2) rfl ek) rfl rfl hl.1 rfl (lv_room (Nat.le_of_ble_eq_true rfl)) dX2_setData_18 ⟨Nat.le_of_ble_eq_true rfl, Nat.le_of_ble_eq_true rfl⟩) hH (fun H locs hH => ?_)
    refine lv_iconst (v := 1) hx hb dX2_setData_21 (by decide) ?_
    refine lv_isub hx hb dX2_setData_22 ?_
    replace hf := b1_i hf
    obtain ⟨v4, e5, hf⟩ := hf
    refine mm_ci (va_runS (As := [.int x2, .int (0 : Int32), .int (v3 - (1 : Int32))]) (rest := []) ⟨hx, hb, hml, hown, hts⟩ (m_X2_in l G x2 (0 : Int32) (v3 - (1 : Int32)) σ v4 e5) (va_cwS 3 hts (lw_S q1107 q1108 q67 q1109) rfl rfl rfl (by decide +kernel) ⟨Nat.le_of_ble_eq_true rfl, Nat.le_of_ble_eq_true rfl⟩) (mm_preS F.2.2.2.2.2 hH) rfl rfl hl.1 rfl (lv_room (Nat.le_of_ble_eq_true rfl)) dX2_setData_23 ⟨Nat.le_of_ble_eq_true rfl, Nat.le_of_ble_eq_true rfl⟩) hH (fun H locs hH => ?_)
    refine lv_if_eq (tgt := 40) hx hb dX2_setData_26 (by decide) (fun c5 => ?_) (fun c5 => ?_)
    · rw [if_pos c5] at hf
      refine lv_ldc (v := (-1000002)) hx hb hown (hts _ q1110) dX2_setData_40 ?_
      obtain ⟨h1, h2⟩ := Prod.mk.inj (Option.some.inj hf)
      subst h1
      subst h2
      exact mm_reti F hH hr hlocks rfl rfl dX2_setData_42
    · rw [if_neg c5] at hf
      refine lv_iload_n hx hb dX2_setData_29 rfl (lv_at hl 4 rfl) ?_
      refine lv_ldc (v := (-1000000)) hx hb hown (hts _ q1168) dX2_setData_30 ?_
      refine lv_ldc (v := (1000000)) hx hb hown (hts _ q1169) dX2_setData_32 ?_
      replace hf := b1_i hf
      obtain ⟨v6, e6, hf⟩ := hf
      refine mm_ci (va_runS (As := [.int x3, .int (-1000000 : Int32), .int (1000000 : Int32)]) (rest := []) ⟨hx, hb, hml, hown, hts⟩ (m_X2_in l G x3 (-1000000 : Int32) (1000000 : Int32) σ v6 e6) (va_cwS 3 hts (lw_S q1107 q1108 q67 q1109) rfl rfl rfl (by decide +kernel) ⟨Nat.le_of_ble_eq_true rfl, Nat.le_of_ble_eq_true rfl⟩) (mm_preS F.2.2.2.2.2 hH) rfl rfl hl.1 rfl (lv_room (Nat.le_of_ble_eq_true rfl)) dX2_setData_34 ⟨Nat.le_of_ble_eq_true rfl, Nat.le_of_ble_eq_true rfl⟩) hH (fun H locs hH => ?_)
      refine lv_if_ne (tgt := 43) hx hb dX2_setData_37 (by decide) (fun c7 => ?_) (fun c7 => ?_)
      · rw [if_neg c7] at hf
        refine lv_sipush (v := 800) hx hb dX2_setData_43 (by decide) ?_
        refine lv_iload hx hb dX2_setData_46 (lv_at hl 0 rfl) ?_
        refine lv_iadd hx hb dX2_setData_48 ?_
        refine lv_iconst (v := 1) hx hb dX2_setData_49 (by decide) ?_
        refine lv_iadd hx hb dX2_setData_50 ?_
        refine lv_aload_n hx hb dX2_setData_51 rfl (lv_at hl 1 rfl) ?_
        replace hf := b1_i hf
        obtain ⟨q8, e7, hf⟩ := hf
        refine mm_getA F hH mc_2 (k := 0) (by decide) (hts _ q1047) (fun _ h => h) e7 dX2_setData_52 ?_
        refine lv_sipush (v := 200) hx hb dX2_setData_55 (by decide) ?_
        refine lv_iload hx hb dX2_setData_58 (lv_at hl 0 rfl) ?_
        refine lv_iadd hx hb dX2_setData_60 ?_
        replace hf := b1_i hf
        obtain ⟨v9, e8, hf⟩ := hf
        refine mm_iald F hH e8 dX2_setData_61 ?_
        refine lv_iadd hx hb dX2_setData_62 ?_
        refine lv_iload_n hx hb dX2_setData_63 rfl (lv_at hl 3 rfl) ?_
        refine lv_iadd hx hb dX2_setData_64 ?_
        refine lv_istore (lv' := [(5, .int (((((800 : Int32) + v1) + (1 : Int32)) + v9) + x2)), (4, .int v1), (0, .ref h0), (1, .int x1), (2, .int x2), (3, .int x3)]) hx hb dX2_setData_65 hl (by decide) rfl (fun ls hl => ?_)
        refine lv_aload_n hx hb dX2_setData_67 rfl (lv_at hl 2 rfl) ?_
        replace hf := b1_i hf
        obtain ⟨q10, e9, hf⟩ := hf
        refine mm_getA F hH mc_2 (k := 0) (by decide) (hts _ q1047) (fun _ h => h) e9 dX2_setData_68 ?_
        refine lv_iload hx hb dX2_setData_71 (lv_at hl 0 rfl) ?_
        replace hf := b1_i hf
        obtain ⟨v11, e10, hf⟩ := hf
        refine mm_iald F hH e10 dX2_setData_73 ?_
        refine lv_istore (lv' := [(6, .int v11), (5, .int (((((800 : Int32) + v1) + (1 : Int32)) + v9) + x2)), (4, .int v1), (0, .ref h0), (1, .int x1), (2, .int x2), (3, .int x3)]) hx hb dX2_setData_74 hl (by decide) rfl (fun ls hl => ?_)
        refine lv_aload_n hx hb dX2_setData_76 rfl (lv_at hl 3 rfl) ?_
        replace hf := b1_i hf
        obtain ⟨q12, e11, hf⟩ := hf
        refine mm_getA F hH mc_2 (k := 0) (by decide) (hts _ q1047) (fun _ h => h) e11 dX2_setData_77 ?_
        refine lv_iload hx hb dX2_setData_80 (lv_at hl 1 rfl) ?_
        refine lv_iload_n hx hb dX2_setData_82 rfl (lv_at hl 6 rfl) ?_
        replace hf := b1_i hf
        obtain ⟨σ13, e12, hf⟩ := hf
        refine mm_iast F hH e12 dX2_setData_83 (fun H locs hH => ?_)
        refine lv_iload hx hb dX2_setData_84 (lv_at hl 0 rfl) ?_
        obtain ⟨h1, h2⟩ := Prod.mk.inj (Option.some.inj hf)
        subst h1
        subst h2
        exact mm_reti F hH hr hlocks rfl rfl dX2_setData_86
      · rw [if_pos c7] at hf
        refine lv_ldc (v := (-1000002)) hx hb hown (hts _ q1110) dX2_setData_40 ?_
        obtain ⟨h1, h2⟩ := Prod.mk.inj (Option.some.inj hf)
        subst h1
        subst h2
        exact mm_reti F hH hr hlocks rfl rfl dX2_setData_42
/-! IslandHeapModel.data(II)I -/
abbrev rm_X2_data : Room := { frames := 2, cells := 0, slots := 0, locals := 44 }
set_option maxHeartbeats 4000000 in
theorem m_X2_data (l : Launch) (G : mm_G) (h0 : Nat) (x1 : Int32) (x2 : Int32) (σ : mm_M) (rr : Int32) (hf : f_X2_data h0 x1 x2 σ = some rr) : Met l yX2_data (ws_ yX2_data cX2_data 4 ((Option.some .int))) rm_X2_data (mm_Pc G [.ref h0, .int x1, .int x2] σ) (mm_Qi G rr σ) 0 0 (mm_A G) := by
  refine mm_met (by decide) rfl rfl (by  exact Nat.le_of_ble_eq_true rfl) (fun p e s m below meth c ls F hH hr hlocks hname hl => ?_)
  have hl : lv_has ls 4 [(0, .ref h0), (1, .int x1), (2, .int x2)] := by  exact hl
  have F : mm_F p s m _ c RX2 cX2_data 4 G := F
  have hx := F.1
  have hb := F.2.1
  have hml := F.2.2.1
  have hown := F.2.2.2.1
  have hts := F.2.2.2.2.1
  unfold f_X2_data at hf
  refine lv_aload_n hx hb dX2_data_0 rfl (lv_at hl 0 rfl) ?_
  refine lv_iload_n hx hb dX2_data_1 rfl (lv_at hl 1 rfl) ?_
  replace hf := b1_i hf
  obtain ⟨u, e1, hf⟩ := hf
  obtain ⟨fs, ek⟩ := ck_i e1
  replace hf := b1_i hf
  obtain ⟨v1, e2, hf⟩ := hf
  refine mm_ci (va_runV (As := [.int x1]) (rest := []) ⟨hx, hb, hml, hown, hts⟩ (m_X2_objectOf l G h0 x1 σ v1 e2) (cwV 1 hts (lw_V q1124 q1126 qs34 q67 q1127) rfl rfl rfl (by decide +kernel) ⟨Nat.le_of_ble_eq_true rfl, Nat.le_of_ble_eq_true rfl⟩) (mm_preV F.2.2.2.2.2 hH (ci := 2) rfl ek) rfl rfl hl.1 rfl (lv_room (Nat.le_of_ble_eq_true rfl)) dX2_data_2 ⟨Nat.le_of_ble_eq_true rfl, Nat.le_of_ble_eq_true rfl⟩) hH (fun H locs hH => ?_)
  refine lv_istore_n (lv' := [(3, .int v1), (0, .ref h0), (1, .int x1), (2, .int x2)]) hx hb dX2_data_5 rfl hl (by decide) rfl (fun ls hl => ?_)
  refine lv_iload_n hx hb dX2_data_6 rfl (lv_at hl 0 rfl) ?_
  refine lv_iconst (v := (-1)) hx hb dX2_data_7 (by decide) ?_
  refine lv_icmp_eq (tgt := 26) hx hb dX2_data_8 (by decide) (fun c2 => ?_) (fun c2 => ?_)
  · rw [if_pos c2] at hf
    refine lv_ldc (v := (-1000002)) hx hb hown (hts _ q1110) dX2_data_26 ?_
    refine lv_goto (tgt := 56) hx hb dX2_data_28 (by decide) ?_
    have h1 := Option.some.inj hf
    subst h1
    exact mm_reti F hH hr hlocks rfl rfl dX2_data_56
  · rw [if_neg c2] at hf
    refine lv_iload_n hx hb dX2_data_11 rfl (lv_at hl 3 rfl) ?_
    refine lv_iconst (v := 0) hx hb dX2_data_12 (by decide) ?_
    refine lv_aload_n hx hb dX2_data_13 rfl (lv_at hl 1 rfl) ?_
    refine lv_iload_n hx hb dX2_data_14 rfl (lv_at hl 0 rfl) ?_
    replace hf := b1_i hf
    obtain ⟨u, e3, hf⟩ := hf
    obtain ⟨fs, ek⟩ := ck_i e3
    replace hf := b1_i hf
    obtain ⟨v3, e4, hf⟩ := hf
    refine mm_ci (va_runV (As := [.int v1]) (rest := [.int (0 : Int32), .int x2]) ⟨hx, hb, hml, hown, hts⟩ (m_X2_dataOf l G h0 v1 σ v3 e4) (cwV 1 hts (lw_V q1128 q1130 qs35 q67 q1131) rfl rfl rfl (by decide +kernel) ⟨Nat.le_of_ble_eq_true rfl, Nat.le_of_ble_eq_true rfl⟩) (mm_preV F.2.2.2.2.2 hH (ci := 2) rfl ek) rfl rfl hl.1 rfl (lv_room (Nat.le_of_ble_eq_true rfl)) dX2_data_15 ⟨Nat.le_of_ble_eq_true rfl, Nat.le_of_ble_eq_true rfl⟩) hH (fun H locs hH => ?_)
    refine lv_iconst (v := 1) hx hb dX2_data_18 (by decide) ?_
    refine lv_isub hx hb dX2_data_19 ?_
    replace hf := b1_i hf
    obtain ⟨v4, e5, hf⟩ := hf
    refine mm_ci (va_runS (As := [.int x2, .int (0 : Int32), .int (v3 - (1 : Int32))]) (rest := []) ⟨hx, hb, hml, hown, hts⟩ (m_X2_in l G x2 (0 : Int32) (v3 - (1 : Int32)) σ v4 e5) (va_cwS 3 hts (lw_S q1107 q1108 q67 q1109) rfl rfl rfl (by decide +kernel) ⟨Nat.le_of_ble_eq_true rfl, Nat.le_of_ble_eq_true rfl⟩) (mm_preS F.2.2.2.2.2 hH) rfl rfl hl.1 rfl (lv_room (Nat.le_of_ble_eq_true rfl)) dX2_data_20 ⟨Nat.le_of_ble_eq_true rfl, Nat.le_of_ble_eq_true rfl⟩) hH (fun H locs hH => ?_)
    refine lv_if_ne (tgt := 31) hx hb dX2_data_23 (by decide) (fun c5 => ?_) (fun c5 => ?_)
    · rw [if_neg c5] at hf
      refine lv_aload_n hx hb dX2_data_31 rfl (lv_at hl 1 rfl) ?_
      replace hf := b1_i hf
      obtain ⟨q6, e6, hf⟩ := hf
      refine mm_getA F hH mc_2 (k := 0) (by decide) (hts _ q1047) (fun _ h => h) e6 dX2_data_32 ?_
      refine lv_sipush (v := 800) hx hb dX2_data_35 (by decide) ?_
      refine lv_iload_n hx hb dX2_data_38 rfl (lv_at hl 0 rfl) ?_
      refine lv_iadd hx hb dX2_data_39 ?_
      refine lv_iconst (v := 1) hx hb dX2_data_40 (by decide) ?_
      refine lv_iadd hx hb dX2_data_41 ?_
      refine lv_aload_n hx hb dX2_data_42 rfl (lv_at hl 1 rfl) ?_
      replace hf := b1_i hf
      obtain ⟨q7, e7, hf⟩ := hf
      refine mm_getA F hH mc_2 (k := 0) (by decide) (hts _ q1047) (fun _ h => h) e7 dX2_data_43 ?_
      refine lv_sipush (v := 200) hx hb dX2_data_46 (by decide) ?_
      refine lv_iload_n hx hb dX2_data_49 rfl (lv_at hl 0 rfl) ?_
      refine lv_iadd hx hb dX2_data_50 ?_
      replace hf := b1_i hf
      obtain ⟨v8, e8, hf⟩ := hf
      refine mm_iald F hH e8 dX2_data_51 ?_
      refine lv_iadd hx hb dX2_data_52 ?_
      refine lv_iload_n hx hb dX2_data_53 rfl (lv_at hl 3 rfl) ?_
      refine lv_iadd hx hb dX2_data_54 ?_
      replace hf := b1_i hf
      obtain ⟨v9, e9, hf⟩ := hf
      refine mm_iald F hH e9 dX2_data_55 ?_
      have h1 := Option.some.inj hf
      subst h1
      exact mm_reti F hH hr hlocks rfl rfl dX2_data_56
    · rw [if_pos c5] at hf
      refine lv_ldc (v := (-1000002)) hx hb hown (hts _ q1110) dX2_data_26 ?_
      refine lv_goto (tgt := 56) hx hb dX2_data_28 (by decide) ?_
      have h1 := Option.some.inj hf
      subst h1
      exact mm_reti F hH hr hlocks rfl rfl dX2_data_56
