/-! WALKS -/
set_option maxRecDepth 100000
/-! IslandHeap$Heap.occupy()V -/
abbrev rm_X1_occupy : Room := { frames := 3, cells := 0, slots := 0, locals := 64 }
set_option maxHeartbeats 4000000 in
theorem w_X1_occupy_2 {p : Program} {l : Launch} {e : Env} {s : State} {m : MethodId} {av : Array Value} {below : List Frame} {meth : Method} {c : Code} {G : mm_G} {σf : mm_M} {n : Nat} {h0 : Nat} (F : mm_F p s m av c RX1 cX1_occupy 4 G) (hr : meth.sig.returnType = (Option.none : Option Jvm.ClassFile.FieldType)) (hlocks : meth.locks = false) (hname : meth.name = yX1_occupy.name) (IH2 : ∀ (x1 : Int32) (σ : mm_M) (H : Heap) (locs : List Loc) (ls : Array Slot), mm_H G s σ H locs → lv_has ls 4 [(0, .ref h0), (1, .int x1)] → itn (s_X1_occupy h0) n (.inl (x1, σ)) = some σf → W p l e rm_X1_occupy s m av below meth c H locs 0 0 (MQ below (mm_Qv G σf) av s 0 0 (mm_A G)) (F0 m 2 ls [])) (IH24 : ∀ (x1 : Int32) (σ : mm_M) (H : Heap) (locs : List Loc) (ls : Array Slot), mm_H G s σ H locs → lv_has ls 4 [(0, .ref h0), (1, .int x1)] → itn (s_X1_occupy h0) n (.inr (.inl (x1, σ))) = some σf → W p l e rm_X1_occupy s m av below meth c H locs 0 0 (MQ below (mm_Qv G σf) av s 0 0 (mm_A G)) (F0 m 24 ls [])) (IH52 : ∀ (x1 : Int32) (a2 : Nat) (x3 : Int32) (σ : mm_M) (H : Heap) (locs : List Loc) (ls : Array Slot), mm_H G s σ H locs → lv_has ls 4 [(0, .ref h0), (1, .int x1), (2, .ref a2), (3, .int x3)] → itn (s_X1_occupy h0) n (.inr (.inr (x1, a2, x3, σ))) = some σf → W p l e rm_X1_occupy s m av below meth c H locs 0 0 (MQ below (mm_Qv G σf) av s 0 0 (mm_A G)) (F0 m 52 ls []))  (x1 : Int32)  (σ : mm_M) (hf : evn (s_X1_occupy h0) n (g_X1_occupy_2 h0 x1 σ) = some σf) {H : Heap} {locs : List Loc} {ls : Array Slot} (hH : mm_H G s σ H locs) (hl : lv_has ls 4 [(0, .ref h0), (1, .int x1)]) : W p l e rm_X1_occupy s m av below meth c H locs 0 0 (MQ below (mm_Qv G σf) av s 0 0 (mm_A G)) (F0 m 2 ls []) := by
  have hx := F.1
  have hb := F.2.1
  have hml := F.2.2.1
  have hown := F.2.2.2.1
  have hts := F.2.2.2.2.1
  unfold g_X1_occupy_2 at hf
  refine lv_iload_n hx hb dX1_occupy_2 rfl (lv_at hl 1 rfl) ?_
  refine lv_sipush (v := 200) hx hb dX1_occupy_3 (by decide) ?_
  refine lv_icmp_ge (tgt := 22) hx hb dX1_occupy_6 (by decide) (fun c1 => ?_) (fun c1 => ?_)
  · rw [if_pos c1] at hf
    refine lv_iconst (v := 0) hx hb dX1_occupy_22 (by decide) ?_
    refine lv_istore_n (lv' := [(1, .int (0 : Int32)), (0, .ref h0)]) hx hb dX1_occupy_23 rfl hl (by decide) rfl (fun ls hl => ?_)
    rw [evn_l] at hf
    exact IH24 (0 : Int32) σ _ _ _ hH (lv_sub hl [1, 0] rfl) hf
  · rw [if_neg c1] at hf
    refine lv_aload_n hx hb dX1_occupy_9 rfl (lv_at hl 0 rfl) ?_
    replace hf := evn_b1 hf
    obtain ⟨q2, e1, hf⟩ := hf
    refine mm_getA F hH mc_1 (k := 3) (by decide) (hts _ q140) (fun _ h => h) e1 dX1_occupy_10 ?_
    refine lv_iload_n hx hb dX1_occupy_13 rfl (lv_at hl 1 rfl) ?_
    refine lv_null hx hb dX1_occupy_14 ?_
    replace hf := evn_b1 hf
    obtain ⟨σ3, e2, hf⟩ := hf
    refine mm_aastN F hH (k := 3) (by decide) e2 dX1_occupy_15 (fun H locs hH => ?_)
    refine lv_iinc (v := x1 + (1 : Int32)) (lv' := [(1, .int (x1 + (1 : Int32))), (0, .ref h0)]) hx hb dX1_occupy_16 hl (k := 1) rfl rfl (by decide) rfl (fun ls hl => ?_)
    refine lv_goto (tgt := 2) hx hb dX1_occupy_19 (by decide) ?_
    rw [evn_l] at hf
    exact IH2 (x1 + (1 : Int32)) σ3 _ _ _ hH (lv_sub hl [1, 0] rfl) hf
set_option maxHeartbeats 4000000 in
theorem w_X1_occupy_24 {p : Program} {l : Launch} {e : Env} {s : State} {m : MethodId} {av : Array Value} {below : List Frame} {meth : Method} {c : Code} {G : mm_G} {σf : mm_M} {n : Nat} {h0 : Nat} (F : mm_F p s m av c RX1 cX1_occupy 4 G) (hr : meth.sig.returnType = (Option.none : Option Jvm.ClassFile.FieldType)) (hlocks : meth.locks = false) (hname : meth.name = yX1_occupy.name) (IH2 : ∀ (x1 : Int32) (σ : mm_M) (H : Heap) (locs : List Loc) (ls : Array Slot), mm_H G s σ H locs → lv_has ls 4 [(0, .ref h0), (1, .int x1)] → itn (s_X1_occupy h0) n (.inl (x1, σ)) = some σf → W p l e rm_X1_occupy s m av below meth c H locs 0 0 (MQ below (mm_Qv G σf) av s 0 0 (mm_A G)) (F0 m 2 ls [])) (IH24 : ∀ (x1 : Int32) (σ : mm_M) (H : Heap) (locs : List Loc) (ls : Array Slot), mm_H G s σ H locs → lv_has ls 4 [(0, .ref h0), (1, .int x1)] → itn (s_X1_occupy h0) n (.inr (.inl (x1, σ))) = some σf → W p l e rm_X1_occupy s m av below meth c H locs 0 0 (MQ below (mm_Qv G σf) av s 0 0 (mm_A G)) (F0 m 24 ls [])) (IH52 : ∀ (x1 : Int32) (a2 : Nat) (x3 : Int32) (σ : mm_M) (H : Heap) (locs : List Loc) (ls : Array Slot), mm_H G s σ H locs → lv_has ls 4 [(0, .ref h0), (1, .int x1), (2, .ref a2), (3, .int x3)] → itn (s_X1_occupy h0) n (.inr (.inr (x1, a2, x3, σ))) = some σf → W p l e rm_X1_occupy s m av below meth c H locs 0 0 (MQ below (mm_Qv G σf) av s 0 0 (mm_A G)) (F0 m 52 ls []))  (x1 : Int32)  (σ : mm_M) (hf : evn (s_X1_occupy h0) n (g_X1_occupy_24 h0 x1 σ) = some σf) {H : Heap} {locs : List Loc} {ls : Array Slot} (hH : mm_H G s σ H locs) (hl : lv_has ls 4 [(0, .ref h0), (1, .int x1)]) : W p l e rm_X1_occupy s m av below meth c H locs 0 0 (MQ below (mm_Qv G σf) av s 0 0 (mm_A G)) (F0 m 24 ls []) := by
  have hx := F.1
  have hb := F.2.1
  have hml := F.2.2.1
  have hown := F.2.2.2.1
  have hts := F.2.2.2.2.1
  unfold g_X1_occupy_24 at hf
  refine lv_iload_n hx hb dX1_occupy_24 rfl (lv_at hl 1 rfl) ?_
  refine lv_aload_n hx hb dX1_occupy_25 rfl (lv_at hl 0 rfl) ?_
  replace hf := evn_b1 hf
  obtain ⟨q1, e1, hf⟩ := hf
  refine mm_getA F hH mc_1 (k := 2) (by decide) (hts _ q136) (fun _ h => h) e1 dX1_occupy_26 ?_
  replace hf := evn_b1 hf
  obtain ⟨u, e2, hf⟩ := hf
  obtain ⟨fs, ek⟩ := ck_i e2
  replace hf := evn_b1 hf
  obtain ⟨v2, e3, hf⟩ := hf
  refine mm_ci (va_runV (As := []) (rest := [.int x1]) ⟨hx, hb, hml, hown, hts⟩ (m_J2_size l G q1 σ v2 e3) (cwV 0 hts (lw_V q290 q291 q292 q66 q293) rfl rfl rfl (by decide +kernel) ⟨Nat.le_of_ble_eq_true rfl, Nat.le_of_ble_eq_true rfl⟩) (mm_preV F.2.2.2.2.2 hH (ci := 15) rfl ek) rfl rfl hl.1 rfl (lv_room (Nat.le_of_ble_eq_true rfl)) dX1_occupy_29 ⟨Nat.le_of_ble_eq_true rfl, Nat.le_of_ble_eq_true rfl⟩) hH (fun H locs hH => ?_)
  refine lv_icmp_ge (tgt := 79) hx hb dX1_occupy_32 (by decide) (fun c3 => ?_) (fun c3 => ?_)
  · rw [if_pos c3] at hf
    rw [evn_r] at hf
    have h1 := Option.some.inj hf
    subst h1
    exact mm_retv F hH hr hlocks dX1_occupy_79
  · rw [if_neg c3] at hf
    refine lv_aload_n hx hb dX1_occupy_35 rfl (lv_at hl 0 rfl) ?_
    replace hf := evn_b1 hf
    obtain ⟨q4, e4, hf⟩ := hf
    refine mm_getA F hH mc_1 (k := 2) (by decide) (hts _ q136) (fun _ h => h) e4 dX1_occupy_36 ?_
    refine lv_iload_n hx hb dX1_occupy_39 rfl (lv_at hl 1 rfl) ?_
    replace hf := evn_b1 hf
    obtain ⟨u, e5, hf⟩ := hf
    obtain ⟨fs, ek⟩ := ck_i e5
    replace hf := evn_b1 hf
    obtain ⟨p5, e6, hf⟩ := hf
    refine mm_cq (va_runV (As := [.int x1]) (rest := []) ⟨hx, hb, hml, hown, hts⟩ (m_J2_get l G q4 x1 σ p5 e6) (cwV 1 hts (lw_V q294 q295 q296 q66 q297) rfl rfl rfl (by decide +kernel) ⟨Nat.le_of_ble_eq_true rfl, Nat.le_of_ble_eq_true rfl⟩) (mm_preV F.2.2.2.2.2 hH (ci := 15) rfl ek) rfl rfl hl.1 rfl (lv_room (Nat.le_of_ble_eq_true rfl)) dX1_occupy_40 ⟨Nat.le_of_ble_eq_true rfl, Nat.le_of_ble_eq_true rfl⟩) hH (fun H locs hH => ?_)
    replace hf := evn_b1 hf
    obtain ⟨q6, e7, hf⟩ := hf
    subst e7
    replace hf := evn_b1 hf
    obtain ⟨u, e8, hf⟩ := hf
    refine mm_cast F hH mc_3 (hts _ q130) e8 dX1_occupy_43 ?_
    refine lv_astore_n (lv' := [(2, .ref q6), (0, .ref h0), (1, .int x1)]) hx hb dX1_occupy_46 rfl hl (by decide) rfl (fun ls hl => ?_)
    refine lv_aload_n hx hb dX1_occupy_47 rfl (lv_at hl 0 rfl) ?_
    replace hf := evn_b1 hf
    obtain ⟨v7, e9, hf⟩ := hf
    refine mm_getIN F hH mc_3 (k := 0) (by decide) q252 (fun _ h => h) e9 dX1_occupy_48 ?_
    refine lv_istore_n (lv' := [(3, .int v7), (2, .ref q6), (0, .ref h0), (1, .int x1)]) hx hb dX1_occupy_51 rfl hl (by decide) rfl (fun ls hl => ?_)
    rw [evn_l] at hf
    exact IH52 x1 q6 v7 σ _ _ _ hH (lv_sub hl [2, 3, 1, 0] rfl) hf
set_option maxHeartbeats 4000000 in
theorem w_X1_occupy_52 {p : Program} {l : Launch} {e : Env} {s : State} {m : MethodId} {av : Array Value} {below : List Frame} {meth : Method} {c : Code} {G : mm_G} {σf : mm_M} {n : Nat} {h0 : Nat} (F : mm_F p s m av c RX1 cX1_occupy 4 G) (hr : meth.sig.returnType = (Option.none : Option Jvm.ClassFile.FieldType)) (hlocks : meth.locks = false) (hname : meth.name = yX1_occupy.name) (IH2 : ∀ (x1 : Int32) (σ : mm_M) (H : Heap) (locs : List Loc) (ls : Array Slot), mm_H G s σ H locs → lv_has ls 4 [(0, .ref h0), (1, .int x1)] → itn (s_X1_occupy h0) n (.inl (x1, σ)) = some σf → W p l e rm_X1_occupy s m av below meth c H locs 0 0 (MQ below (mm_Qv G σf) av s 0 0 (mm_A G)) (F0 m 2 ls [])) (IH24 : ∀ (x1 : Int32) (σ : mm_M) (H : Heap) (locs : List Loc) (ls : Array Slot), mm_H G s σ H locs → lv_has ls 4 [(0, .ref h0), (1, .int x1)] → itn (s_X1_occupy h0) n (.inr (.inl (x1, σ))) = some σf → W p l e rm_X1_occupy s m av below meth c H locs 0 0 (MQ below (mm_Qv G σf) av s 0 0 (mm_A G)) (F0 m 24 ls [])) (IH52 : ∀ (x1 : Int32) (a2 : Nat) (x3 : Int32) (σ : mm_M) (H : Heap) (locs : List Loc) (ls : Array Slot), mm_H G s σ H locs → lv_has ls 4 [(0, .ref h0), (1, .int x1), (2, .ref a2), (3, .int x3)] → itn (s_X1_occupy h0) n (.inr (.inr (x1, a2, x3, σ))) = some σf → W p l e rm_X1_occupy s m av below meth c H locs 0 0 (MQ below (mm_Qv G σf) av s 0 0 (mm_A G)) (F0 m 52 ls []))  (x1 : Int32) (a2 : Nat) (x3 : Int32)  (σ : mm_M) (hf : evn (s_X1_occupy h0) n (g_X1_occupy_52 h0 x1 a2 x3 σ) = some σf) {H : Heap} {locs : List Loc} {ls : Array Slot} (hH : mm_H G s σ H locs) (hl : lv_has ls 4 [(0, .ref h0), (1, .int x1), (2, .ref a2), (3, .int x3)]) : W p l e rm_X1_occupy s m av below meth c H locs 0 0 (MQ below (mm_Qv G σf) av s 0 0 (mm_A G)) (F0 m 52 ls []) := by
  have hx := F.1
  have hb := F.2.1
  have hml := F.2.2.1
  have hown := F.2.2.2.1
  have hts := F.2.2.2.2.1
  unfold g_X1_occupy_52 at hf
  refine lv_iload_n hx hb dX1_occupy_52 rfl (lv_at hl 3 rfl) ?_
  refine lv_aload_n hx hb dX1_occupy_53 rfl (lv_at hl 2 rfl) ?_
  replace hf := evn_b1 hf
  obtain ⟨u, e1, hf⟩ := hf
  obtain ⟨fs, ek⟩ := ck_i e1
  replace hf := evn_b1 hf
  obtain ⟨v1, e2, hf⟩ := hf
  refine mm_ci (va_runV (As := []) (rest := [.int x3]) ⟨hx, hb, hml, hown, hts⟩ (m_X3_end l G a2 σ v1 e2) (cwV 0 hts (lw_V q236 q237 q238 q68 q239) rfl rfl rfl (by decide +kernel) ⟨Nat.le_of_ble_eq_true rfl, Nat.le_of_ble_eq_true rfl⟩) (mm_preV F.2.2.2.2.2 hH (ci := 3) rfl ek) rfl rfl hl.1 rfl (lv_room (Nat.le_of_ble_eq_true rfl)) dX1_occupy_54 ⟨Nat.le_of_ble_eq_true rfl, Nat.le_of_ble_eq_true rfl⟩) hH (fun H locs hH => ?_)
  refine lv_icmp_ge (tgt := 73) hx hb dX1_occupy_57 (by decide) (fun c2 => ?_) (fun c2 => ?_)
  · rw [if_pos c2] at hf
    refine lv_iinc (v := x1 + (1 : Int32)) (lv' := [(1, .int (x1 + (1 : Int32))), (0, .ref h0), (2, .ref a2), (3, .int x3)]) hx hb dX1_occupy_73 hl (k := 1) rfl rfl (by decide) rfl (fun ls hl => ?_)
    refine lv_goto (tgt := 24) hx hb dX1_occupy_76 (by decide) ?_
    rw [evn_l] at hf
    exact IH24 (x1 + (1 : Int32)) σ _ _ _ hH (lv_sub hl [1, 0] rfl) hf
  · rw [if_neg c2] at hf
    refine lv_aload_n hx hb dX1_occupy_60 rfl (lv_at hl 0 rfl) ?_
    replace hf := evn_b1 hf
    obtain ⟨q3, e3, hf⟩ := hf
    refine mm_getA F hH mc_1 (k := 3) (by decide) (hts _ q140) (fun _ h => h) e3 dX1_occupy_61 ?_
    refine lv_iload_n hx hb dX1_occupy_64 rfl (lv_at hl 3 rfl) ?_
    refine lv_aload_n hx hb dX1_occupy_65 rfl (lv_at hl 2 rfl) ?_
    replace hf := evn_b1 hf
    obtain ⟨σ4, e4, hf⟩ := hf
    refine mm_aast F hH (k := 3) (by decide) e4 dX1_occupy_66 (fun H locs hH => ?_)
    refine lv_iinc (v := x3 + (1 : Int32)) (lv' := [(3, .int (x3 + (1 : Int32))), (0, .ref h0), (1, .int x1), (2, .ref a2)]) hx hb dX1_occupy_67 hl (k := 3) rfl rfl (by decide) rfl (fun ls hl => ?_)
    refine lv_goto (tgt := 52) hx hb dX1_occupy_70 (by decide) ?_
    rw [evn_l] at hf
    exact IH52 x1 a2 (x3 + (1 : Int32)) σ4 _ _ _ hH (lv_sub hl [1, 2, 3, 0] rfl) hf
set_option maxHeartbeats 4000000 in
theorem w_X1_occupy_0 {p : Program} {l : Launch} {e : Env} {s : State} {m : MethodId} {av : Array Value} {below : List Frame} {meth : Method} {c : Code} {G : mm_G} {σf : mm_M} {n : Nat} {h0 : Nat} (F : mm_F p s m av c RX1 cX1_occupy 4 G) (hr : meth.sig.returnType = (Option.none : Option Jvm.ClassFile.FieldType)) (hlocks : meth.locks = false) (hname : meth.name = yX1_occupy.name) (IH2 : ∀ (x1 : Int32) (σ : mm_M) (H : Heap) (locs : List Loc) (ls : Array Slot), mm_H G s σ H locs → lv_has ls 4 [(0, .ref h0), (1, .int x1)] → itn (s_X1_occupy h0) n (.inl (x1, σ)) = some σf → W p l e rm_X1_occupy s m av below meth c H locs 0 0 (MQ below (mm_Qv G σf) av s 0 0 (mm_A G)) (F0 m 2 ls [])) (IH24 : ∀ (x1 : Int32) (σ : mm_M) (H : Heap) (locs : List Loc) (ls : Array Slot), mm_H G s σ H locs → lv_has ls 4 [(0, .ref h0), (1, .int x1)] → itn (s_X1_occupy h0) n (.inr (.inl (x1, σ))) = some σf → W p l e rm_X1_occupy s m av below meth c H locs 0 0 (MQ below (mm_Qv G σf) av s 0 0 (mm_A G)) (F0 m 24 ls [])) (IH52 : ∀ (x1 : Int32) (a2 : Nat) (x3 : Int32) (σ : mm_M) (H : Heap) (locs : List Loc) (ls : Array Slot), mm_H G s σ H locs → lv_has ls 4 [(0, .ref h0), (1, .int x1), (2, .ref a2), (3, .int x3)] → itn (s_X1_occupy h0) n (.inr (.inr (x1, a2, x3, σ))) = some σf → W p l e rm_X1_occupy s m av below meth c H locs 0 0 (MQ below (mm_Qv G σf) av s 0 0 (mm_A G)) (F0 m 52 ls []))    (σ : mm_M) (hf : evn (s_X1_occupy h0) n (g_X1_occupy_0 h0 σ) = some σf) {H : Heap} {locs : List Loc} {ls : Array Slot} (hH : mm_H G s σ H locs) (hl : lv_has ls 4 [(0, .ref h0)]) : W p l e rm_X1_occupy s m av below meth c H locs 0 0 (MQ below (mm_Qv G σf) av s 0 0 (mm_A G)) (F0 m 0 ls []) := by
  have hx := F.1
  have hb := F.2.1
  have hml := F.2.2.1
  have hown := F.2.2.2.1
  have hts := F.2.2.2.2.1
  unfold g_X1_occupy_0 at hf
  refine lv_iconst (v := 0) hx hb dX1_occupy_0 (by decide) ?_
  refine lv_istore_n (lv' := [(1, .int (0 : Int32)), (0, .ref h0)]) hx hb dX1_occupy_1 rfl hl (by decide) rfl (fun ls hl => ?_)
  rw [evn_l] at hf
  exact IH2 (0 : Int32) σ _ _ _ hH (lv_sub hl [1, 0] rfl) hf
set_option maxHeartbeats 4000000 in
theorem l_X1_occupy {p : Program} {l : Launch} {e : Env} {s : State} {m : MethodId} {av : Array Value} {below : List Frame} {meth : Method} {c : Code} {G : mm_G} {σf : mm_M} {h0 : Nat} (F : mm_F p s m av c RX1 cX1_occupy 4 G) (hr : meth.sig.returnType = (Option.none : Option Jvm.ClassFile.FieldType)) (hlocks : meth.locks = false) (hname : meth.name = yX1_occupy.name) : ∀ n : Nat, (∀ (x1 : Int32) (σ : mm_M) (H : Heap) (locs : List Loc) (ls : Array Slot), mm_H G s σ H locs → lv_has ls 4 [(0, .ref h0), (1, .int x1)] → itn (s_X1_occupy h0) n (.inl (x1, σ)) = some σf → W p l e rm_X1_occupy s m av below meth c H locs 0 0 (MQ below (mm_Qv G σf) av s 0 0 (mm_A G)) (F0 m 2 ls [])) ∧ (∀ (x1 : Int32) (σ : mm_M) (H : Heap) (locs : List Loc) (ls : Array Slot), mm_H G s σ H locs → lv_has ls 4 [(0, .ref h0), (1, .int x1)] → itn (s_X1_occupy h0) n (.inr (.inl (x1, σ))) = some σf → W p l e rm_X1_occupy s m av below meth c H locs 0 0 (MQ below (mm_Qv G σf) av s 0 0 (mm_A G)) (F0 m 24 ls [])) ∧ (∀ (x1 : Int32) (a2 : Nat) (x3 : Int32) (σ : mm_M) (H : Heap) (locs : List Loc) (ls : Array Slot), mm_H G s σ H locs → lv_has ls 4 [(0, .ref h0), (1, .int x1), (2, .ref a2), (3, .int x3)] → itn (s_X1_occupy h0) n (.inr (.inr (x1, a2, x3, σ))) = some σf → W p l e rm_X1_occupy s m av below meth c H locs 0 0 (MQ below (mm_Qv G σf) av s 0 0 (mm_A G)) (F0 m 52 ls [])) := by
  intro n
  induction n with
  | zero =>
    exact ⟨fun x1 σ H locs ls hH hl hf => (by cases hf), fun x1 σ H locs ls hH hl hf => (by cases hf), fun x1 a2 x3 σ H locs ls hH hl hf => (by cases hf)⟩
  | succ n ih =>
    obtain ⟨IH2, IH24, IH52⟩ := ih
    refine ⟨?_, ?_, ?_⟩
    · intro x1 σ H locs ls hH hl hf
      rw [itn_s] at hf
      exact w_X1_occupy_2 F hr hlocks hname IH2 IH24 IH52 x1 σ hf hH hl
    · intro x1 σ H locs ls hH hl hf
      rw [itn_s] at hf
      exact w_X1_occupy_24 F hr hlocks hname IH2 IH24 IH52 x1 σ hf hH hl
    · intro x1 a2 x3 σ H locs ls hH hl hf
      rw [itn_s] at hf
      exact w_X1_occupy_52 F hr hlocks hname IH2 IH24 IH52 x1 a2 x3 σ hf hH hl
set_option maxHeartbeats 4000000 in
theorem m_X1_occupy (l : Launch) (G : mm_G) (h0 : Nat) (σ : mm_M) (σf : mm_M) (hf : f_X1_occupy h0 σ = some σf) : Met l yX1_occupy (ws_ yX1_occupy cX1_occupy 4 ((Option.none : Option Jvm.ClassFile.FieldType))) rm_X1_occupy (mm_Pc G [.ref h0] σ) (mm_Qv G σf) 0 0 (mm_A G) := by
  refine mm_met (by decide) rfl rfl (by  exact Nat.le_of_ble_eq_true rfl) (fun p e s m below meth c ls F hH hr hlocks hname hl => ?_)
  have hl : lv_has ls 4 [(0, .ref h0)] := by  exact hl
  have F : mm_F p s m _ c RX1 cX1_occupy 4 G := F
  unfold f_X1_occupy at hf
  obtain ⟨n, hf⟩ := lgo_i hf
  have IH := l_X1_occupy (l := l) (e := e) (below := below) (σf := σf) (h0 := h0) F hr hlocks hname n
  exact w_X1_occupy_0 F hr hlocks hname IH.1 IH.2.1 IH.2.2 σ hf hH (lv_sub hl [0] rfl)
/-! IslandHeap$Heap.slide(LIslandHeap$Report;)I -/
abbrev rm_X1_slide : Room := { frames := 4, cells := 0, slots := 0, locals := 98 }
set_option maxHeartbeats 4000000 in
theorem w_X1_slide_4 {p : Program} {l : Launch} {e : Env} {s : State} {m : MethodId} {av : Array Value} {below : List Frame} {meth : Method} {c : Code} {G : mm_G} {σf : mm_M} {rr : Int32} {n : Nat} {h0 : Nat} {a1 : Nat} (F : mm_F p s m av c RX1 cX1_slide 7 G) (hr : meth.sig.returnType = (Option.some .int)) (hlocks : meth.locks = false) (hname : meth.name = yX1_slide.name) (IH4 : ∀ (x2 : Int32) (x3 : Int32) (σ : mm_M) (H : Heap) (locs : List Loc) (ls : Array Slot), mm_H G s σ H locs → lv_has ls 7 [(0, .ref h0), (1, .ref a1), (2, .int x2), (3, .int x3)] → itn (s_X1_slide h0 a1) n (.inl (x2, x3, σ)) = some (rr, σf) → W p l e rm_X1_slide s m av below meth c H locs 0 0 (MQ below (mm_Qi G rr σf) av s 0 0 (mm_A G)) (F0 m 4 ls [])) (IH46 : ∀ (x2 : Int32) (x3 : Int32) (x4 : Int32) (σ : mm_M) (H : Heap) (locs : List Loc) (ls : Array Slot), mm_H G s σ H locs → lv_has ls 7 [(0, .ref h0), (1, .ref a1), (2, .int x2), (3, .int x3), (4, .int x4)] → itn (s_X1_slide h0 a1) n (.inr (x2, x3, x4, σ)) = some (rr, σf) → W p l e rm_X1_slide s m av below meth c H locs 0 0 (MQ below (mm_Qi G rr σf) av s 0 0 (mm_A G)) (F0 m 46 ls []))  (x2 : Int32) (x3 : Int32)  (σ : mm_M) (hf : evn (s_X1_slide h0 a1) n (g_X1_slide_4 h0 a1 x2 x3 σ) = some (rr, σf)) {H : Heap} {locs : List Loc} {ls : Array Slot} (hH : mm_H G s σ H locs) (hl : lv_has ls 7 [(0, .ref h0), (1, .ref a1), (2, .int x2), (3, .int x3)]) : W p l e rm_X1_slide s m av below meth c H locs 0 0 (MQ below (mm_Qi G rr σf) av s 0 0 (mm_A G)) (F0 m 4 ls []) := by
  have hx := F.1
  have hb := F.2.1
  have hml := F.2.2.1
  have hown := F.2.2.2.1
  have hts := F.2.2.2.2.1
  unfold g_X1_slide_4 at hf
  refine lv_iload_n hx hb dX1_slide_4 rfl (lv_at hl 3 rfl) ?_
  refine lv_sipush (v := 200) hx hb dX1_slide_5 (by decide) ?_
  refine lv_icmp_ge (tgt := 41) hx hb dX1_slide_8 (by decide) (fun c1 => ?_) (fun c1 => ?_)
  · rw [if_pos c1] at hf
    refine lv_iconst (v := 0) hx hb dX1_slide_41 (by decide) ?_
    refine lv_istore_n (lv' := [(3, .int (0 : Int32)), (0, .ref h0), (1, .ref a1), (2, .int x2)]) hx hb dX1_slide_42 rfl hl (by decide) rfl (fun ls hl => ?_)
    refine lv_iconst (v := 0) hx hb dX1_slide_43 (by decide) ?_
    refine lv_istore (lv' := [(4, .int (0 : Int32)), (3, .int (0 : Int32)), (0, .ref h0), (1, .ref a1), (2, .int x2)]) hx hb dX1_slide_44 hl (by decide) rfl (fun ls hl => ?_)
    rw [evn_l] at hf
    exact IH46 x2 (0 : Int32) (0 : Int32) σ _ _ _ hH (lv_sub hl [2, 3, 4, 1, 0] rfl) hf
  · rw [if_neg c1] at hf
    refine lv_iload_n hx hb dX1_slide_11 rfl (lv_at hl 2 rfl) ?_
    refine lv_aload_n hx hb dX1_slide_12 rfl (lv_at hl 0 rfl) ?_
    replace hf := evn_b1 hf
    obtain ⟨q2, e1, hf⟩ := hf
    refine mm_getA F hH mc_1 (k := 3) (by decide) (hts _ q140) (fun _ h => h) e1 dX1_slide_13 ?_
    refine lv_iload_n hx hb dX1_slide_16 rfl (lv_at hl 3 rfl) ?_
    replace hf := evn_b1 hf
    obtain ⟨p3, e2, hf⟩ := hf
    refine mm_aald F hH (k := 3) (by decide) e2 dX1_slide_17 ?_
    cases p3 with
    | none =>
      rw [mt_n] at hf
      refine lv_ifnonnullN hx hb dX1_slide_18 ?_
      refine lv_iconst (v := 0) hx hb dX1_slide_21 (by decide) ?_
      refine lv_goto (tgt := 26) hx hb dX1_slide_22 (by decide) ?_
      refine lv_iadd hx hb dX1_slide_26 ?_
      refine lv_istore_n (lv' := [(2, .int (x2 + (0 : Int32))), (0, .ref h0), (1, .ref a1), (3, .int x3)]) hx hb dX1_slide_27 rfl hl (by decide) rfl (fun ls hl => ?_)
      refine lv_aload_n hx hb dX1_slide_28 rfl (lv_at hl 1 rfl) ?_
      replace hf := evn_b1 hf
      obtain ⟨q5, e3, hf⟩ := hf
      refine mm_getA F hH mc_1 (k := 10) (by decide) (hts _ q156) (fun _ h => h) e3 dX1_slide_29 ?_
      refine lv_iload_n hx hb dX1_slide_32 rfl (lv_at hl 3 rfl) ?_
      refine lv_iconst (v := (-1)) hx hb dX1_slide_33 (by decide) ?_
      replace hf := evn_b1 hf
      obtain ⟨σ6, e4, hf⟩ := hf
      refine mm_iast F hH e4 dX1_slide_34 (fun H locs hH => ?_)
      refine lv_iinc (v := x3 + (1 : Int32)) (lv' := [(3, .int (x3 + (1 : Int32))), (2, .int (x2 + (0 : Int32))), (0, .ref h0), (1, .ref a1)]) hx hb dX1_slide_35 hl (k := 3) rfl rfl (by decide) rfl (fun ls hl => ?_)
      refine lv_goto (tgt := 4) hx hb dX1_slide_38 (by decide) ?_
      rw [evn_l] at hf
      exact IH4 (x2 + (0 : Int32)) (x3 + (1 : Int32)) σ6 _ _ _ hH (lv_sub hl [2, 3, 1, 0] rfl) hf
    | some q4 =>
      rw [mt_s] at hf
      refine lv_ifnonnull (tgt := 25) hx hb dX1_slide_18 (by decide) ?_
      refine lv_iconst (v := 1) hx hb dX1_slide_25 (by decide) ?_
      refine lv_iadd hx hb dX1_slide_26 ?_
      refine lv_istore_n (lv' := [(2, .int (x2 + (1 : Int32))), (0, .ref h0), (1, .ref a1), (3, .int x3)]) hx hb dX1_slide_27 rfl hl (by decide) rfl (fun ls hl => ?_)
      refine lv_aload_n hx hb dX1_slide_28 rfl (lv_at hl 1 rfl) ?_
      replace hf := evn_b1 hf
      obtain ⟨q7, e5, hf⟩ := hf
      refine mm_getA F hH mc_1 (k := 10) (by decide) (hts _ q156) (fun _ h => h) e5 dX1_slide_29 ?_
      refine lv_iload_n hx hb dX1_slide_32 rfl (lv_at hl 3 rfl) ?_
      refine lv_iconst (v := (-1)) hx hb dX1_slide_33 (by decide) ?_
      replace hf := evn_b1 hf
      obtain ⟨σ8, e6, hf⟩ := hf
      refine mm_iast F hH e6 dX1_slide_34 (fun H locs hH => ?_)
      refine lv_iinc (v := x3 + (1 : Int32)) (lv' := [(3, .int (x3 + (1 : Int32))), (2, .int (x2 + (1 : Int32))), (0, .ref h0), (1, .ref a1)]) hx hb dX1_slide_35 hl (k := 3) rfl rfl (by decide) rfl (fun ls hl => ?_)
      refine lv_goto (tgt := 4) hx hb dX1_slide_38 (by decide) ?_
      rw [evn_l] at hf
      exact IH4 (x2 + (1 : Int32)) (x3 + (1 : Int32)) σ8 _ _ _ hH (lv_sub hl [2, 3, 1, 0] rfl) hf
set_option maxHeartbeats 4000000 in
theorem w_X1_slide_97 {p : Program} {l : Launch} {e : Env} {s : State} {m : MethodId} {av : Array Value} {below : List Frame} {meth : Method} {c : Code} {G : mm_G} {σf : mm_M} {rr : Int32} {n : Nat} {h0 : Nat} {a1 : Nat} (F : mm_F p s m av c RX1 cX1_slide 7 G) (hr : meth.sig.returnType = (Option.some .int)) (hlocks : meth.locks = false) (hname : meth.name = yX1_slide.name) (IH4 : ∀ (x2 : Int32) (x3 : Int32) (σ : mm_M) (H : Heap) (locs : List Loc) (ls : Array Slot), mm_H G s σ H locs → lv_has ls 7 [(0, .ref h0), (1, .ref a1), (2, .int x2), (3, .int x3)] → itn (s_X1_slide h0 a1) n (.inl (x2, x3, σ)) = some (rr, σf) → W p l e rm_X1_slide s m av below meth c H locs 0 0 (MQ below (mm_Qi G rr σf) av s 0 0 (mm_A G)) (F0 m 4 ls [])) (IH46 : ∀ (x2 : Int32) (x3 : Int32) (x4 : Int32) (σ : mm_M) (H : Heap) (locs : List Loc) (ls : Array Slot), mm_H G s σ H locs → lv_has ls 7 [(0, .ref h0), (1, .ref a1), (2, .int x2), (3, .int x3), (4, .int x4)] → itn (s_X1_slide h0 a1) n (.inr (x2, x3, x4, σ)) = some (rr, σf) → W p l e rm_X1_slide s m av below meth c H locs 0 0 (MQ below (mm_Qi G rr σf) av s 0 0 (mm_A G)) (F0 m 46 ls []))  (x2 : Int32) (x4 : Int32) (a5 : Nat) (t0 : Int32) (σ : mm_M) (hf : evn (s_X1_slide h0 a1) n (g_X1_slide_97 h0 a1 x2 x4 a5 t0 σ) = some (rr, σf)) {H : Heap} {locs : List Loc} {ls : Array Slot} (hH : mm_H G s σ H locs) (hl : lv_has ls 7 [(0, .ref h0), (1, .ref a1), (2, .int x2), (4, .int x4), (5, .ref a5)]) : W p l e rm_X1_slide s m av below meth c H locs 0 0 (MQ below (mm_Qi G rr σf) av s 0 0 (mm_A G)) (F0 m 97 ls [.int t0]) := by
  have hx := F.1
  have hb := F.2.1
  have hml := F.2.2.1
  have hown := F.2.2.2.1
  have hts := F.2.2.2.2.1
  unfold g_X1_slide_97 at hf
  refine lv_istore (lv' := [(6, .int t0), (0, .ref h0), (1, .ref a1), (2, .int x2), (4, .int x4), (5, .ref a5)]) hx hb dX1_slide_97 hl (by decide) rfl (fun ls hl => ?_)
  refine lv_iload hx hb dX1_slide_99 (lv_at hl 0 rfl) ?_
  refine lv_aload hx hb dX1_slide_101 (lv_at hl 5 rfl) ?_
  replace hf := evn_b1 hf
  obtain ⟨u, e1, hf⟩ := hf
  obtain ⟨fs, ek⟩ := ck_i e1
  replace hf := evn_b1 hf
  obtain ⟨v1, e2, hf⟩ := hf
  refine mm_ci (va_runV (As := []) (rest := [.int t0]) ⟨hx, hb, hml, hown, hts⟩ (m_X3_size l G a5 σ v1 e2) (cwV 0 hts (lw_V q615 q241 q242 q68 q243) rfl rfl rfl (by decide +kernel) ⟨Nat.le_of_ble_eq_true rfl, Nat.le_of_ble_eq_true rfl⟩) (mm_preV F.2.2.2.2.2 hH (ci := 3) rfl ek) rfl rfl hl.1 rfl (lv_room (Nat.le_of_ble_eq_true rfl)) dX1_slide_103 ⟨Nat.le_of_ble_eq_true rfl, Nat.le_of_ble_eq_true rfl⟩) hH (fun H locs hH => ?_)
  refine lv_iadd hx hb dX1_slide_106 ?_
  refine lv_istore_n (lv' := [(3, .int (t0 + v1)), (6, .int t0), (0, .ref h0), (1, .ref a1), (2, .int x2), (4, .int x4), (5, .ref a5)]) hx hb dX1_slide_107 rfl hl (by decide) rfl (fun ls hl => ?_)
  refine lv_aload_n hx hb dX1_slide_108 rfl (lv_at hl 2 rfl) ?_
  refine lv_aload hx hb dX1_slide_109 (lv_at hl 6 rfl) ?_
  refine lv_iload hx hb dX1_slide_111 (lv_at hl 1 rfl) ?_
  refine lv_aload_n hx hb dX1_slide_113 rfl (lv_at hl 3 rfl) ?_
  replace hf := evn_b1 hf
  obtain ⟨u, e3, hf⟩ := hf
  obtain ⟨fs, ek⟩ := ck_i e3
  replace hf := evn_b1 hf
  obtain ⟨σ2, e4, hf⟩ := hf
  refine mm_cv (va_runV (As := [.ref a5, .int t0, .ref a1]) (rest := []) ⟨hx, hb, hml, hown, hts⟩ (m_X1_note l G h0 a5 t0 a1 σ σ2 e4) (cwV 3 hts (lw_V q616 q618 qs11 q63 q619) rfl rfl rfl (by decide +kernel) ⟨Nat.le_of_ble_eq_true rfl, Nat.le_of_ble_eq_true rfl⟩) (mm_preV F.2.2.2.2.2 hH (ci := 1) rfl ek) rfl rfl hl.1 rfl (lv_room (Nat.le_of_ble_eq_true rfl)) dX1_slide_114 ⟨Nat.le_of_ble_eq_true rfl, Nat.le_of_ble_eq_true rfl⟩) hH (fun H locs hH => ?_)
  refine lv_iinc (v := x4 + (1 : Int32)) (lv' := [(4, .int (x4 + (1 : Int32))), (3, .int (t0 + v1)), (6, .int t0), (0, .ref h0), (1, .ref a1), (2, .int x2), (5, .ref a5)]) hx hb dX1_slide_117 hl (k := 5) rfl rfl (by decide) rfl (fun ls hl => ?_)
  refine lv_goto (tgt := 46) hx hb dX1_slide_120 (by decide) ?_
  rw [evn_l] at hf
  exact IH46 x2 (t0 + v1) (x4 + (1 : Int32)) σ2 _ _ _ hH (lv_sub hl [3, 4, 5, 1, 0] rfl) hf
set_option maxHeartbeats 4000000 in
theorem w_X1_slide_46 {p : Program} {l : Launch} {e : Env} {s : State} {m : MethodId} {av : Array Value} {below : List Frame} {meth : Method} {c : Code} {G : mm_G} {σf : mm_M} {rr : Int32} {n : Nat} {h0 : Nat} {a1 : Nat} (F : mm_F p s m av c RX1 cX1_slide 7 G) (hr : meth.sig.returnType = (Option.some .int)) (hlocks : meth.locks = false) (hname : meth.name = yX1_slide.name) (IH4 : ∀ (x2 : Int32) (x3 : Int32) (σ : mm_M) (H : Heap) (locs : List Loc) (ls : Array Slot), mm_H G s σ H locs → lv_has ls 7 [(0, .ref h0), (1, .ref a1), (2, .int x2), (3, .int x3)] → itn (s_X1_slide h0 a1) n (.inl (x2, x3, σ)) = some (rr, σf) → W p l e rm_X1_slide s m av below meth c H locs 0 0 (MQ below (mm_Qi G rr σf) av s 0 0 (mm_A G)) (F0 m 4 ls [])) (IH46 : ∀ (x2 : Int32) (x3 : Int32) (x4 : Int32) (σ : mm_M) (H : Heap) (locs : List Loc) (ls : Array Slot), mm_H G s σ H locs → lv_has ls 7 [(0, .ref h0), (1, .ref a1), (2, .int x2), (3, .int x3), (4, .int x4)] → itn (s_X1_slide h0 a1) n (.inr (x2, x3, x4, σ)) = some (rr, σf) → W p l e rm_X1_slide s m av below meth c H locs 0 0 (MQ below (mm_Qi G rr σf) av s 0 0 (mm_A G)) (F0 m 46 ls []))  (x2 : Int32) (x3 : Int32) (x4 : Int32)  (σ : mm_M) (hf : evn (s_X1_slide h0 a1) n (g_X1_slide_46 h0 a1 x2 x3 x4 σ) = some (rr, σf)) {H : Heap} {locs : List Loc} {ls : Array Slot} (hH : mm_H G s σ H locs) (hl : lv_has ls 7 [(0, .ref h0), (1, .ref a1), (2, .int x2), (3, .int x3), (4, .int x4)]) : W p l e rm_X1_slide s m av below meth c H locs 0 0 (MQ below (mm_Qi G rr σf) av s 0 0 (mm_A G)) (F0 m 46 ls []) := by
  have hx := F.1
  have hb := F.2.1
  have hml := F.2.2.1
  have hown := F.2.2.2.1
  have hts := F.2.2.2.2.1
  unfold g_X1_slide_46 at hf
  refine lv_iload hx hb dX1_slide_46 (lv_at hl 4 rfl) ?_
  refine lv_aload_n hx hb dX1_slide_48 rfl (lv_at hl 0 rfl) ?_
  replace hf := evn_b1 hf
  obtain ⟨q1, e1, hf⟩ := hf
  refine mm_getA F hH mc_1 (k := 2) (by decide) (hts _ q136) (fun _ h => h) e1 dX1_slide_49 ?_
  replace hf := evn_b1 hf
  obtain ⟨u, e2, hf⟩ := hf
  obtain ⟨fs, ek⟩ := ck_i e2
  replace hf := evn_b1 hf
  obtain ⟨v2, e3, hf⟩ := hf
  refine mm_ci (va_runV (As := []) (rest := [.int x4]) ⟨hx, hb, hml, hown, hts⟩ (m_J2_size l G q1 σ v2 e3) (cwV 0 hts (lw_V q290 q291 q292 q66 q293) rfl rfl rfl (by decide +kernel) ⟨Nat.le_of_ble_eq_true rfl, Nat.le_of_ble_eq_true rfl⟩) (mm_preV F.2.2.2.2.2 hH (ci := 15) rfl ek) rfl rfl hl.1 rfl (lv_room (Nat.le_of_ble_eq_true rfl)) dX1_slide_52 ⟨Nat.le_of_ble_eq_true rfl, Nat.le_of_ble_eq_true rfl⟩) hH (fun H locs hH => ?_)
  refine lv_icmp_ge (tgt := 123) hx hb dX1_slide_55 (by decide) (fun c3 => ?_) (fun c3 => ?_)
  · rw [if_pos c3] at hf
    refine lv_aload_n hx hb dX1_slide_123 rfl (lv_at hl 0 rfl) ?_
    replace hf := evn_b1 hf
    obtain ⟨u, e4, hf⟩ := hf
    obtain ⟨fs, ek⟩ := ck_i e4
    replace hf := evn_b1 hf
    obtain ⟨σ4, e5, hf⟩ := hf
    refine mm_cv (va_runV (As := []) (rest := []) ⟨hx, hb, hml, hown, hts⟩ (m_X1_settle l G h0 σ σ4 e5) (cwV 0 hts (lw_V q620 q622 qs12 q63 q623) rfl rfl rfl (by decide +kernel) ⟨Nat.le_of_ble_eq_true rfl, Nat.le_of_ble_eq_true rfl⟩) (mm_preV F.2.2.2.2.2 hH (ci := 1) rfl ek) rfl rfl hl.1 rfl (lv_room (Nat.le_of_ble_eq_true rfl)) dX1_slide_124 ⟨Nat.le_of_ble_eq_true rfl, Nat.le_of_ble_eq_true rfl⟩) hH (fun H locs hH => ?_)
    refine lv_aload_n hx hb dX1_slide_127 rfl (lv_at hl 0 rfl) ?_
    replace hf := evn_b1 hf
    obtain ⟨u, e6, hf⟩ := hf
    obtain ⟨fs, ek⟩ := ck_i e6
    replace hf := evn_b1 hf
    obtain ⟨σ5, e7, hf⟩ := hf
    refine mm_cv (va_runV (As := []) (rest := []) ⟨hx, hb, hml, hown, hts⟩ (m_X1_occupy l G h0 σ4 σ5 e7) (cwV 0 hts (lw_V q636 q638 qs15 q63 q639) rfl rfl rfl (by decide +kernel) ⟨Nat.le_of_ble_eq_true rfl, Nat.le_of_ble_eq_true rfl⟩) (mm_preV F.2.2.2.2.2 hH (ci := 1) rfl ek) rfl rfl hl.1 rfl (lv_room (Nat.le_of_ble_eq_true rfl)) dX1_slide_128 ⟨Nat.le_of_ble_eq_true rfl, Nat.le_of_ble_eq_true rfl⟩) hH (fun H locs hH => ?_)
    refine lv_iload_n hx hb dX1_slide_131 rfl (lv_at hl 2 rfl) ?_
    refine lv_aload_n hx hb dX1_slide_132 rfl (lv_at hl 1 rfl) ?_
    replace hf := evn_b1 hf
    obtain ⟨v6, e8, hf⟩ := hf
    refine mm_getIN F hH mc_5 (k := 1) (by decide) q589 (fun _ h => h) e8 dX1_slide_133 ?_
    refine lv_isub hx hb dX1_slide_136 ?_
    rw [evn_r] at hf
    obtain ⟨h1, h2⟩ := Prod.mk.inj (Option.some.inj hf)
    subst h1
    subst h2
    exact mm_reti F hH hr hlocks rfl rfl dX1_slide_137
  · rw [if_neg c3] at hf
    refine lv_aload_n hx hb dX1_slide_58 rfl (lv_at hl 0 rfl) ?_
    replace hf := evn_b1 hf
    obtain ⟨q7, e9, hf⟩ := hf
    refine mm_getA F hH mc_1 (k := 2) (by decide) (hts _ q136) (fun _ h => h) e9 dX1_slide_59 ?_
    refine lv_iload hx hb dX1_slide_62 (lv_at hl 4 rfl) ?_
    replace hf := evn_b1 hf
    obtain ⟨u, e10, hf⟩ := hf
    obtain ⟨fs, ek⟩ := ck_i e10
    replace hf := evn_b1 hf
    obtain ⟨p8, e11, hf⟩ := hf
    refine mm_cq (va_runV (As := [.int x4]) (rest := []) ⟨hx, hb, hml, hown, hts⟩ (m_J2_get l G q7 x4 σ p8 e11) (cwV 1 hts (lw_V q294 q295 q296 q66 q297) rfl rfl rfl (by decide +kernel) ⟨Nat.le_of_ble_eq_true rfl, Nat.le_of_ble_eq_true rfl⟩) (mm_preV F.2.2.2.2.2 hH (ci := 15) rfl ek) rfl rfl hl.1 rfl (lv_room (Nat.le_of_ble_eq_true rfl)) dX1_slide_64 ⟨Nat.le_of_ble_eq_true rfl, Nat.le_of_ble_eq_true rfl⟩) hH (fun H locs hH => ?_)
    replace hf := evn_b1 hf
    obtain ⟨q9, e12, hf⟩ := hf
    subst e12
    replace hf := evn_b1 hf
    obtain ⟨u, e13, hf⟩ := hf
    refine mm_cast F hH mc_3 (hts _ q130) e13 dX1_slide_67 ?_
    refine lv_astore (lv' := [(5, .ref q9), (0, .ref h0), (1, .ref a1), (2, .int x2), (3, .int x3), (4, .int x4)]) hx hb dX1_slide_70 hl (by decide) rfl (fun ls hl => ?_)
    refine lv_aload hx hb dX1_slide_72 (lv_at hl 0 rfl) ?_
    replace hf := evn_b1 hf
    obtain ⟨v10, e14, hf⟩ := hf
    refine mm_getIN F hH mc_3 (k := 5) (by decide) q275 (fun _ h => h) e14 dX1_slide_74 ?_
    refine lv_if_eq (tgt := 117) hx hb dX1_slide_77 (by decide) (fun c11 => ?_) (fun c11 => ?_)
    · rw [if_pos c11] at hf
      refine lv_iinc (v := x4 + (1 : Int32)) (lv' := [(4, .int (x4 + (1 : Int32))), (5, .ref q9), (0, .ref h0), (1, .ref a1), (2, .int x2), (3, .int x3)]) hx hb dX1_slide_117 hl (k := 5) rfl rfl (by decide) rfl (fun ls hl => ?_)
      refine lv_goto (tgt := 46) hx hb dX1_slide_120 (by decide) ?_
      rw [evn_l] at hf
      exact IH46 x2 x3 (x4 + (1 : Int32)) σ _ _ _ hH (lv_sub hl [2, 3, 4, 5, 0] rfl) hf
    · rw [if_neg c11] at hf
      refine lv_aload hx hb dX1_slide_80 (lv_at hl 0 rfl) ?_
      replace hf := evn_b1 hf
      obtain ⟨v12, e15, hf⟩ := hf
      refine mm_getIN F hH mc_3 (k := 3) (by decide) q267 (fun _ h => h) e15 dX1_slide_82 ?_
      refine lv_if_eq (tgt := 96) hx hb dX1_slide_85 (by decide) (fun c13 => ?_) (fun c13 => ?_)
      · rw [if_pos c13] at hf
        refine lv_iload_n hx hb dX1_slide_96 rfl (lv_at hl 4 rfl) ?_
        exact w_X1_slide_97 F hr hlocks hname IH4 IH46 x2 x4 q9 x3 σ hf hH (lv_sub hl [1, 2, 3, 5, 0] rfl)
      · rw [if_neg c13] at hf
        refine lv_aload hx hb dX1_slide_88 (lv_at hl 0 rfl) ?_
        replace hf := evn_b1 hf
        obtain ⟨v14, e16, hf⟩ := hf
        refine mm_getIN F hH mc_3 (k := 0) (by decide) q252 (fun _ h => h) e16 dX1_slide_90 ?_
        refine lv_goto (tgt := 97) hx hb dX1_slide_93 (by decide) ?_
        exact w_X1_slide_97 F hr hlocks hname IH4 IH46 x2 x4 q9 v14 σ hf hH (lv_sub hl [1, 2, 3, 5, 0] rfl)
set_option maxHeartbeats 4000000 in
theorem w_X1_slide_0 {p : Program} {l : Launch} {e : Env} {s : State} {m : MethodId} {av : Array Value} {below : List Frame} {meth : Method} {c : Code} {G : mm_G} {σf : mm_M} {rr : Int32} {n : Nat} {h0 : Nat} {a1 : Nat} (F : mm_F p s m av c RX1 cX1_slide 7 G) (hr : meth.sig.returnType = (Option.some .int)) (hlocks : meth.locks = false) (hname : meth.name = yX1_slide.name) (IH4 : ∀ (x2 : Int32) (x3 : Int32) (σ : mm_M) (H : Heap) (locs : List Loc) (ls : Array Slot), mm_H G s σ H locs → lv_has ls 7 [(0, .ref h0), (1, .ref a1), (2, .int x2), (3, .int x3)] → itn (s_X1_slide h0 a1) n (.inl (x2, x3, σ)) = some (rr, σf) → W p l e rm_X1_slide s m av below meth c H locs 0 0 (MQ below (mm_Qi G rr σf) av s 0 0 (mm_A G)) (F0 m 4 ls [])) (IH46 : ∀ (x2 : Int32) (x3 : Int32) (x4 : Int32) (σ : mm_M) (H : Heap) (locs : List Loc) (ls : Array Slot), mm_H G s σ H locs → lv_has ls 7 [(0, .ref h0), (1, .ref a1), (2, .int x2), (3, .int x3), (4, .int x4)] → itn (s_X1_slide h0 a1) n (.inr (x2, x3, x4, σ)) = some (rr, σf) → W p l e rm_X1_slide s m av below meth c H locs 0 0 (MQ below (mm_Qi G rr σf) av s 0 0 (mm_A G)) (F0 m 46 ls []))    (σ : mm_M) (hf : evn (s_X1_slide h0 a1) n (g_X1_slide_0 h0 a1 σ) = some (rr, σf)) {H : Heap} {locs : List Loc} {ls : Array Slot} (hH : mm_H G s σ H locs) (hl : lv_has ls 7 [(0, .ref h0), (1, .ref a1)]) : W p l e rm_X1_slide s m av below meth c H locs 0 0 (MQ below (mm_Qi G rr σf) av s 0 0 (mm_A G)) (F0 m 0 ls []) := by
  have hx := F.1
  have hb := F.2.1
  have hml := F.2.2.1
  have hown := F.2.2.2.1
  have hts := F.2.2.2.2.1
  unfold g_X1_slide_0 at hf
  refine lv_iconst (v := 0) hx hb dX1_slide_0 (by decide) ?_
  refine lv_istore_n (lv' := [(2, .int (0 : Int32)), (0, .ref h0), (1, .ref a1)]) hx hb dX1_slide_1 rfl hl (by decide) rfl (fun ls hl => ?_)
  refine lv_iconst (v := 0) hx hb dX1_slide_2 (by decide) ?_
  refine lv_istore_n (lv' := [(3, .int (0 : Int32)), (2, .int (0 : Int32)), (0, .ref h0), (1, .ref a1)]) hx hb dX1_slide_3 rfl hl (by decide) rfl (fun ls hl => ?_)
  rw [evn_l] at hf
  exact IH4 (0 : Int32) (0 : Int32) σ _ _ _ hH (lv_sub hl [2, 3, 1, 0] rfl) hf
set_option maxHeartbeats 4000000 in
theorem l_X1_slide {p : Program} {l : Launch} {e : Env} {s : State} {m : MethodId} {av : Array Value} {below : List Frame} {meth : Method} {c : Code} {G : mm_G} {σf : mm_M} {rr : Int32} {h0 : Nat} {a1 : Nat} (F : mm_F p s m av c RX1 cX1_slide 7 G) (hr : meth.sig.returnType = (Option.some .int)) (hlocks : meth.locks = false) (hname : meth.name = yX1_slide.name) : ∀ n : Nat, (∀ (x2 : Int32) (x3 : Int32) (σ : mm_M) (H : Heap) (locs : List Loc) (ls : Array Slot), mm_H G s σ H locs → lv_has ls 7 [(0, .ref h0), (1, .ref a1), (2, .int x2), (3, .int x3)] → itn (s_X1_slide h0 a1) n (.inl (x2, x3, σ)) = some (rr, σf) → W p l e rm_X1_slide s m av below meth c H locs 0 0 (MQ below (mm_Qi G rr σf) av s 0 0 (mm_A G)) (F0 m 4 ls [])) ∧ (∀ (x2 : Int32) (x3 : Int32) (x4 : Int32) (σ : mm_M) (H : Heap) (locs : List Loc) (ls : Array Slot), mm_H G s σ H locs → lv_has ls 7 [(0, .ref h0), (1, .ref a1), (2, .int x2), (3, .int x3), (4, .int x4)] → itn (s_X1_slide h0 a1) n (.inr (x2, x3, x4, σ)) = some (rr, σf) → W p l e rm_X1_slide s m av below meth c H locs 0 0 (MQ below (mm_Qi G rr σf) av s 0 0 (mm_A G)) (F0 m 46 ls [])) := by
  intro n
  induction n with
  | zero =>
    exact ⟨fun x2 x3 σ H locs ls hH hl hf => (by cases hf), fun x2 x3 x4 σ H locs ls hH hl hf => (by cases hf)⟩
  | succ n ih =>
    obtain ⟨IH4, IH46⟩ := ih
    refine ⟨?_, ?_⟩
    · intro x2 x3 σ H locs ls hH hl hf
      rw [itn_s] at hf
      exact w_X1_slide_4 F hr hlocks hname IH4 IH46 x2 x3 σ hf hH hl
    · intro x2 x3 x4 σ H locs ls hH hl hf
      rw [itn_s] at hf
      exact w_X1_slide_46 F hr hlocks hname IH4 IH46 x2 x3 x4 σ hf hH hl
set_option maxHeartbeats 4000000 in
theorem m_X1_slide (l : Launch) (G : mm_G) (h0 : Nat) (a1 : Nat) (σ : mm_M) (σf : mm_M) (rr : Int32) (hf : f_X1_slide h0 a1 σ = some (rr, σf)) : Met l yX1_slide (ws_ yX1_slide cX1_slide 7 ((Option.some .int))) rm_X1_slide (mm_Pc G [.ref h0, .ref a1] σ) (mm_Qi G rr σf) 0 0 (mm_A G) := by
  refine mm_met (by decide) rfl rfl (by  exact Nat.le_of_ble_eq_true rfl) (fun p e s m below meth c ls F hH hr hlocks hname hl => ?_)
  have hl : lv_has ls 7 [(0, .ref h0), (1, .ref a1)] := by  exact hl
  have F : mm_F p s m _ c RX1 cX1_slide 7 G := F
  unfold f_X1_slide at hf
  obtain ⟨n, hf⟩ := lgo_i hf
  have IH := l_X1_slide (l := l) (e := e) (below := below) (rr := rr) (σf := σf) (h0 := h0) (a1 := a1) F hr hlocks hname n
  exact w_X1_slide_0 F hr hlocks hname IH.1 IH.2 σ hf hH (lv_sub hl [0, 1] rfl)
/-! IslandHeap.collect()I -/
abbrev rm_X0_collect : Room := { frames := 6, cells := 2, slots := 14, locals := 144 }
set_option maxHeartbeats 4000000 in
theorem m_X0_collect (l : Launch) (G : mm_G) (h0 : Nat) (σ : mm_M) (σf : mm_M) (rr : Int32) (hf : f_X0_collect h0 σ = some (rr, σf)) : Met l yX0_collect (ws_ yX0_collect cX0_collect 4 ((Option.some .int))) rm_X0_collect (mm_Pc G [.ref h0] σ) (mm_Qi G rr σf) 2 14 (mm_A G) := by
  refine mm_met (by decide) rfl rfl (by  exact Nat.le_of_ble_eq_true rfl) (fun p e s m below meth c ls F hH hr hlocks hname hl => ?_)
  have hl : lv_has ls 4 [(0, .ref h0)] := by  exact hl
  have F : mm_F p s m _ c RX0 cX0_collect 4 G := F
  have hx := F.1
  have hb := F.2.1
  have hml := F.2.2.1
  have hown := F.2.2.2.1
  have hts := F.2.2.2.2.1
  unfold f_X0_collect at hf
  replace hf := b2_i hf
  obtain ⟨q2, σ1, e1, hf⟩ := hf
  refine mm_new F hH mc_4 (hts _ q451) (hts _ q452) (hts _ q77) (Nat.le_of_ble_eq_true rfl) (Nat.le_of_ble_eq_true rfl) e1 dX0_collect_0 (fun H hH => ?_)
  refine lv_dup hx hb dX0_collect_3 rfl ?_
  refine lv_aload_n hx hb dX0_collect_4 rfl (lv_at hl 0 rfl) ?_
  replace hf := b1_i hf
  obtain ⟨q3, e2, hf⟩ := hf
  refine mm_getA F hH mc_0 (k := 0) (by decide) (hts _ q185) (fun _ h => h) e2 dX0_collect_5 ?_
  refine lv_aload_n hx hb dX0_collect_8 rfl (lv_at hl 0 rfl) ?_
  replace hf := b1_i hf
  obtain ⟨q4, e3, hf⟩ := hf
  refine mm_getA F hH mc_0 (k := 1) (by decide) (hts _ q188) (fun _ h => h) e3 dX0_collect_9 ?_
  refine lv_aload_n hx hb dX0_collect_12 rfl (lv_at hl 0 rfl) ?_
  replace hf := b1_i hf
  obtain ⟨q5, e4, hf⟩ := hf
  refine mm_getA F hH mc_0 (k := 0) (by decide) (hts _ q185) (fun _ h => h) e4 dX0_collect_13 ?_
  replace hf := b1_i hf
  obtain ⟨v6, e5, hf⟩ := hf
  refine mm_getIN F hH mc_1 (k := 1) (by decide) q135 (fun _ h => h) e5 dX0_collect_16 ?_
  refine lv_null hx hb dX0_collect_19 ?_
  replace hf := b1_i hf
  obtain ⟨σ7, e6, hf⟩ := hf
  refine mm_cv (va_runI (As := [.ref q3, .ref q4, .int v6, va_rf none]) (rest := [.ref q2]) ⟨hx, hb, hml, hown, hts⟩ (m_X4_init l G q2 q3 q4 v6 none σ1 σ7 e6) (cwI 4 hts (lw_meth q455) rfl rfl rfl (hts _ q77) (hts _ q453) (hts _ q454) rfl (by decide +kernel) ⟨Nat.le_of_ble_eq_true rfl, Nat.le_of_ble_eq_true rfl⟩) (mm_preS F.2.2.2.2.2 hH) rfl rfl hl.1 rfl (lv_room (Nat.le_of_ble_eq_true rfl)) dX0_collect_20 ⟨Nat.le_of_ble_eq_true rfl, Nat.le_of_ble_eq_true rfl⟩) hH (fun H locs hH => ?_)
  replace hf := b1_i hf
  obtain ⟨u, e7, hf⟩ := hf
  obtain ⟨fs, ek⟩ := ck_i e7
  replace hf := b2_i hf
  obtain ⟨q8, σ9, e8, hf⟩ := hf
  refine mm_cq (va_runV (As := []) (rest := []) ⟨hx, hb, hml, hown, hts⟩ (m_X4_mark l G q2 σ7 σ9 q8 e8) (cwV 0 hts (lw_V q484 q485 q486 q77 q487) rfl rfl rfl (by decide +kernel) ⟨Nat.le_of_ble_eq_true rfl, Nat.le_of_ble_eq_true rfl⟩) (mm_preV F.2.2.2.2.2 hH (ci := 4) rfl ek) rfl rfl hl.1 rfl (lv_room (Nat.le_of_ble_eq_true rfl)) dX0_collect_23 ⟨Nat.le_of_ble_eq_true rfl, Nat.le_of_ble_eq_true rfl⟩) hH (fun H locs hH => ?_)
  refine lv_astore_n (lv' := [(1, .ref q8), (0, .ref h0)]) hx hb dX0_collect_26 rfl hl (by decide) rfl (fun ls hl => ?_)
  replace hf := b2_i hf
  obtain ⟨q11, σ10, e9, hf⟩ := hf
  refine mm_new F hH mc_5 (hts _ q580) (hts _ q581) (hts _ q78) (Nat.le_of_ble_eq_true rfl) (Nat.le_of_ble_eq_true rfl) e9 dX0_collect_27 (fun H hH => ?_)
  refine lv_dup hx hb dX0_collect_30 rfl ?_
  replace hf := b1_i hf
  obtain ⟨σ12, e10, hf⟩ := hf
  refine mm_cv (va_runIN (As := []) (rest := [.ref q11]) ⟨hx, hb, hml, hown, hts⟩ (m_X5_init l G q11 σ10 σ12 e10) ⟨(va_cnB 0 hts (lw_meth q584) rfl rfl rfl (F.2.2.2.2.2.2.1 _ q582 rfl) (hts _ q78) (by decide +kernel) ⟨Nat.le_of_ble_eq_true rfl, Nat.le_of_ble_eq_true rfl⟩), rfl, hts _ q583⟩ (mm_preS F.2.2.2.2.2 hH) rfl rfl hl.1 rfl (lv_room (Nat.le_of_ble_eq_true rfl)) dX0_collect_31 ⟨Nat.le_of_ble_eq_true rfl, Nat.le_of_ble_eq_true rfl⟩) hH (fun H locs hH => ?_)
  refine lv_astore_n (lv' := [(2, .ref q11), (1, .ref q8), (0, .ref h0)]) hx hb dX0_collect_34 rfl hl (by decide) rfl (fun ls hl => ?_)
  refine lv_aload_n hx hb dX0_collect_35 rfl (lv_at hl 0 rfl) ?_
  refine lv_aload_n hx hb dX0_collect_36 rfl (lv_at hl 1 rfl) ?_
  replace hf := b1_i hf
  obtain ⟨v13, e11, hf⟩ := hf
  refine mm_getIN F hH mc_4 (k := 6) (by decide) q465 (fun _ h => h) e11 dX0_collect_37 ?_
  replace hf := b1_i hf
  obtain ⟨σ14, e12, hf⟩ := hf
  refine mm_putN F hH mc_5 (k := 2) (v := vI v13) (by decide) q591 (fun _ h => h) rfl rfl rfl e12 dX0_collect_40 (fun H locs hH => ?_)
  refine lv_aload_n hx hb dX0_collect_43 rfl (lv_at hl 0 rfl) ?_
  refine lv_aload_n hx hb dX0_collect_44 rfl (lv_at hl 1 rfl) ?_
  replace hf := b1_i hf
  obtain ⟨v15, e13, hf⟩ := hf
  refine mm_getIN F hH mc_4 (k := 5) (by decide) q463 (fun _ h => h) e13 dX0_collect_45 ?_
  replace hf := b1_i hf
  obtain ⟨σ16, e14, hf⟩ := hf
  refine mm_putN F hH mc_5 (k := 3) (v := vI v15) (by decide) q593 (fun _ h => h) rfl rfl rfl e14 dX0_collect_48 (fun H locs hH => ?_)
  refine lv_aload_n hx hb dX0_collect_51 rfl (lv_at hl 2 rfl) ?_
  replace hf := b1_i hf
  obtain ⟨q17, e15, hf⟩ := hf
  refine mm_getA F hH mc_0 (k := 0) (by decide) (hts _ q185) (fun _ h => h) e15 dX0_collect_52 ?_
  refine lv_aload_n hx hb dX0_collect_55 rfl (lv_at hl 0 rfl) ?_
  replace hf := b1_i hf
  obtain ⟨u, e16, hf⟩ := hf
  obtain ⟨fs, ek⟩ := ck_i e16
  replace hf := b2_i hf
  obtain ⟨v18, σ19, e17, hf⟩ := hf
  refine mm_ci (va_runV (As := [.ref q11]) (rest := []) ⟨hx, hb, hml, hown, hts⟩ (m_X1_slide l G q17 q11 σ16 σ19 v18 e17) (cwV 1 hts (lw_V q611 q612 q613 q63 q614) rfl rfl rfl (by decide +kernel) ⟨Nat.le_of_ble_eq_true rfl, Nat.le_of_ble_eq_true rfl⟩) (mm_preV F.2.2.2.2.2 hH (ci := 1) rfl ek) rfl rfl hl.1 rfl (lv_room (Nat.le_of_ble_eq_true rfl)) dX0_collect_56 ⟨Nat.le_of_ble_eq_true rfl, Nat.le_of_ble_eq_true rfl⟩) hH (fun H locs hH => ?_)
  refine lv_istore_n (lv' := [(3, .int v18), (2, .ref q11), (1, .ref q8), (0, .ref h0)]) hx hb dX0_collect_59 rfl hl (by decide) rfl (fun ls hl => ?_)
  refine lv_aload_n hx hb dX0_collect_60 rfl (lv_at hl 3 rfl) ?_
  replace hf := b1_i hf
  obtain ⟨q20, e18, hf⟩ := hf
  refine mm_getA F hH mc_0 (k := 0) (by decide) (hts _ q185) (fun _ h => h) e18 dX0_collect_61 ?_
  refine lv_aload_n hx hb dX0_collect_64 rfl (lv_at hl 1 rfl) ?_
  replace hf := b1_i hf
  obtain ⟨σ21, e19, hf⟩ := hf
  refine mm_putN F hH mc_1 (k := 9) (v := vR (some q11)) (by decide) q155 (fun _ h => h) rfl rfl rfl e19 dX0_collect_65 (fun H locs hH => ?_)
  refine lv_aload_n hx hb dX0_collect_68 rfl (lv_at hl 3 rfl) ?_
  replace hf := b1_i hf
  obtain ⟨q22, e20, hf⟩ := hf
  refine mm_getA F hH mc_0 (k := 0) (by decide) (hts _ q185) (fun _ h => h) e20 dX0_collect_69 ?_
  refine lv_dup hx hb dX0_collect_72 rfl ?_
  replace hf := b1_i hf
  obtain ⟨v23, e21, hf⟩ := hf
  refine mm_getIN F hH mc_1 (k := 7) (by decide) q151 (fun _ h => h) e21 dX0_collect_73 ?_
  refine lv_iconst (v := 1) hx hb dX0_collect_76 (by decide) ?_
  refine lv_iadd hx hb dX0_collect_77 ?_
  replace hf := b1_i hf
  obtain ⟨σ24, e22, hf⟩ := hf
  refine mm_putN F hH mc_1 (k := 7) (v := vI (v23 + (1 : Int32))) (by decide) q151 (fun _ h => h) rfl rfl rfl e22 dX0_collect_78 (fun H locs hH => ?_)
  refine lv_aload_n hx hb dX0_collect_81 rfl (lv_at hl 3 rfl) ?_
  replace hf := b1_i hf
  obtain ⟨q25, e23, hf⟩ := hf
  refine mm_getA F hH mc_0 (k := 0) (by decide) (hts _ q185) (fun _ h => h) e23 dX0_collect_82 ?_
  refine lv_dup hx hb dX0_collect_85 rfl ?_
  replace hf := b1_i hf
  obtain ⟨v26, e24, hf⟩ := hf
  refine mm_getIN F hH mc_1 (k := 8) (by decide) q153 (fun _ h => h) e24 dX0_collect_86 ?_
  refine lv_iload_n hx hb dX0_collect_89 rfl (lv_at hl 0 rfl) ?_
  refine lv_iadd hx hb dX0_collect_90 ?_
  replace hf := b1_i hf
  obtain ⟨σ27, e25, hf⟩ := hf
  refine mm_putN F hH mc_1 (k := 8) (v := vI (v26 + v18)) (by decide) q153 (fun _ h => h) rfl rfl rfl e25 dX0_collect_91 (fun H locs hH => ?_)
  refine lv_iload_n hx hb dX0_collect_94 rfl (lv_at hl 0 rfl) ?_
  obtain ⟨h1, h2⟩ := Prod.mk.inj (Option.some.inj hf)
  subst h1
  subst h2
  exact mm_reti F hH hr hlocks rfl rfl dX0_collect_95
/-! IslandHeap.moved(I)I -/
abbrev rm_X0_moved : Room := { frames := 2, cells := 0, slots := 0, locals := 43 }
set_option maxHeartbeats 4000000 in
theorem m_X0_moved (l : Launch) (G : mm_G) (h0 : Nat) (x1 : Int32) (σ : mm_M) (rr : Int32) (hf : f_X0_moved h0 x1 σ = some rr) : Met l yX0_moved (ws_ yX0_moved cX0_moved 2 ((Option.some .int))) rm_X0_moved (mm_Pc G [.ref h0, .int x1] σ) (mm_Qi G rr σ) 0 0 (mm_A G) := by
  refine mm_met (by decide) rfl rfl (by  exact Nat.le_of_ble_eq_true rfl) (fun p e s m below meth c ls F hH hr hlocks hname hl => ?_)
  have hl : lv_has ls 2 [(0, .ref h0), (1, .int x1)] := by  exact hl
  have F : mm_F p s m _ c RX0 cX0_moved 2 G := F
  have hx := F.1
  have hb := F.2.1
  have hml := F.2.2.1
  have hown := F.2.2.2.1
  have hts := F.2.2.2.2.1
  unfold f_X0_moved at hf
  refine lv_aload_n hx hb dX0_moved_0 rfl (lv_at hl 0 rfl) ?_
  replace hf := b1_i hf
  obtain ⟨q1, e1, hf⟩ := hf
  refine mm_getA F hH mc_0 (k := 0) (by decide) (hts _ q185) (fun _ h => h) e1 dX0_moved_1 ?_
  refine lv_iload_n hx hb dX0_moved_4 rfl (lv_at hl 1 rfl) ?_
  replace hf := b1_i hf
  obtain ⟨u, e2, hf⟩ := hf
  obtain ⟨fs, ek⟩ := ck_i e2
  replace hf := b1_i hf
  obtain ⟨v2, e3, hf⟩ := hf
  refine mm_ci (va_runV (As := [.int x1]) (rest := []) ⟨hx, hb, hml, hown, hts⟩ (m_X1_isWord l G q1 x1 σ v2 e3) (cwV 1 hts (lw_V q644 q389 q390 q63 q391) rfl rfl rfl (by decide +kernel) ⟨Nat.le_of_ble_eq_true rfl, Nat.le_of_ble_eq_true rfl⟩) (mm_preV F.2.2.2.2.2 hH (ci := 1) rfl ek) rfl rfl hl.1 rfl (lv_room (Nat.le_of_ble_eq_true rfl)) dX0_moved_5 ⟨Nat.le_of_ble_eq_true rfl, Nat.le_of_ble_eq_true rfl⟩) hH (fun H locs hH => ?_)
  refine lv_if_ne (tgt := 14) hx hb dX0_moved_8 (by decide) (fun c3 => ?_) (fun c3 => ?_)
  · rw [if_neg c3] at hf
    refine lv_aload_n hx hb dX0_moved_14 rfl (lv_at hl 0 rfl) ?_
    replace hf := b1_i hf
    obtain ⟨q4, e4, hf⟩ := hf
    refine mm_getA F hH mc_0 (k := 0) (by decide) (hts _ q185) (fun _ h => h) e4 dX0_moved_15 ?_
    replace hf := b1_i hf
    obtain ⟨p5, e5, hf⟩ := hf
    refine mm_getRN F hH mc_1 (k := 9) (by decide) q155 (fun _ h => h) e5 dX0_moved_18 ?_
    cases p5 with
    | none =>
      rw [mt_n] at hf
      refine lv_ifnonnullN hx hb dX0_moved_21 ?_
      refine lv_ldc (v := (-1000003)) hx hb hown (hts _ q555) dX0_moved_24 ?_
      refine lv_goto (tgt := 38) hx hb dX0_moved_26 (by decide) ?_
      have h1 := Option.some.inj hf
      subst h1
      exact mm_reti F hH hr hlocks rfl rfl dX0_moved_38
    | some q6 =>
      rw [mt_s] at hf
      refine lv_ifnonnull (tgt := 29) hx hb dX0_moved_21 (by decide) ?_
      refine lv_aload_n hx hb dX0_moved_29 rfl (lv_at hl 0 rfl) ?_
      replace hf := b1_i hf
      obtain ⟨q7, e6, hf⟩ := hf
      refine mm_getA F hH mc_0 (k := 0) (by decide) (hts _ q185) (fun _ h => h) e6 dX0_moved_30 ?_
      replace hf := b1_i hf
      obtain ⟨q8, e7, hf⟩ := hf
      refine mm_getAN F hH mc_1 (k := 10) (by decide) q157 (fun _ h => h) e7 dX0_moved_33 ?_
      refine lv_iload_n hx hb dX0_moved_36 rfl (lv_at hl 1 rfl) ?_
      replace hf := b1_i hf
      obtain ⟨v9, e8, hf⟩ := hf
      refine mm_iald F hH e8 dX0_moved_37 ?_
      have h1 := Option.some.inj hf
      subst h1
      exact mm_reti F hH hr hlocks rfl rfl dX0_moved_38
  · rw [if_pos c3] at hf
    refine lv_ldc (v := (-1000002)) hx hb hown (hts _ q219) dX0_moved_11 ?_
    have h1 := Option.some.inj hf
    subst h1
    exact mm_reti F hH hr hlocks rfl rfl dX0_moved_13
/-! IslandHeap$Report.part(I)I -/
abbrev rm_X5_part : Room := { frames := 0, cells := 0, slots := 0, locals := 0 }
set_option maxHeartbeats 4000000 in
theorem m_X5_part (l : Launch) (G : mm_G) (h0 : Nat) (x1 : Int32) (σ : mm_M) (rr : Int32) (hf : f_X5_part h0 x1 σ = some rr) : Met l yX5_part (ws_ yX5_part cX5_part 2 ((Option.some .int))) rm_X5_part (mm_Pc G [.ref h0, .int x1] σ) (mm_Qi G rr σ) 0 0 (mm_A G) := by
  refine mm_met (by decide) rfl rfl (by  exact Nat.le_of_ble_eq_true rfl) (fun p e s m below meth c ls F hH hr hlocks hname hl => ?_)
  have hl : lv_has ls 2 [(0, .ref h0), (1, .int x1)] := by  exact hl
  have F : mm_F p s m _ c RX5 cX5_part 2 G := F
  have hx := F.1
  have hb := F.2.1
  have hml := F.2.2.1
  have hown := F.2.2.2.1
  have hts := F.2.2.2.2.1
  unfold f_X5_part at hf
  refine lv_iload_n hx hb dX5_part_0 rfl (lv_at hl 1 rfl) ?_
  by_cases c1 : x1 = (0 : Int32)
  · rw [if_pos c1] at hf
    refine lv_tableIn (off := 35) (tgt := 36) hx hb dX5_part_1 (by rw [c1]; decide) (by rw [c1]; decide) (by rw [c1]; rfl) (by decide) ?_
    refine lv_aload_n hx hb dX5_part_36 rfl (lv_at hl 0 rfl) ?_
    replace hf := b1_i hf
    obtain ⟨v6, e1, hf⟩ := hf
    refine mm_getI F hH mc_5 (k := 0) (by decide) (hts _ q586) (fun _ h => h) e1 dX5_part_37 ?_
    have h1 := Option.some.inj hf
    subst h1
    exact mm_reti F hH hr hlocks rfl rfl dX5_part_40
  · rw [if_neg c1] at hf
    by_cases c2 : x1 = (1 : Int32)
    · rw [if_pos c2] at hf
      refine lv_tableIn (off := 40) (tgt := 41) hx hb dX5_part_1 (by rw [c2]; decide) (by rw [c2]; decide) (by rw [c2]; rfl) (by decide) ?_
      refine lv_aload_n hx hb dX5_part_41 rfl (lv_at hl 0 rfl) ?_
      replace hf := b1_i hf
      obtain ⟨v7, e2, hf⟩ := hf
      refine mm_getI F hH mc_5 (k := 1) (by decide) (hts _ q588) (fun _ h => h) e2 dX5_part_42 ?_
      have h1 := Option.some.inj hf
      subst h1
      exact mm_reti F hH hr hlocks rfl rfl dX5_part_45
    · rw [if_neg c2] at hf
      by_cases c3 : x1 = (2 : Int32)
      · rw [if_pos c3] at hf
        refine lv_tableIn (off := 45) (tgt := 46) hx hb dX5_part_1 (by rw [c3]; decide) (by rw [c3]; decide) (by rw [c3]; rfl) (by decide) ?_
        refine lv_aload_n hx hb dX5_part_46 rfl (lv_at hl 0 rfl) ?_
        replace hf := b1_i hf
        obtain ⟨v8, e3, hf⟩ := hf
        refine mm_getI F hH mc_5 (k := 2) (by decide) (hts _ q590) (fun _ h => h) e3 dX5_part_47 ?_
        have h1 := Option.some.inj hf
        subst h1
        exact mm_reti F hH hr hlocks rfl rfl dX5_part_50
      · rw [if_neg c3] at hf
        by_cases c4 : x1 = (3 : Int32)
        · rw [if_pos c4] at hf
          refine lv_tableIn (off := 50) (tgt := 51) hx hb dX5_part_1 (by rw [c4]; decide) (by rw [c4]; decide) (by rw [c4]; rfl) (by decide) ?_
          refine lv_aload_n hx hb dX5_part_51 rfl (lv_at hl 0 rfl) ?_
          replace hf := b1_i hf
          obtain ⟨v9, e4, hf⟩ := hf
          refine mm_getI F hH mc_5 (k := 3) (by decide) (hts _ q592) (fun _ h => h) e4 dX5_part_52 ?_
          have h1 := Option.some.inj hf
          subst h1
          exact mm_reti F hH hr hlocks rfl rfl dX5_part_55
        · rw [if_neg c4] at hf
          by_cases c5 : x1 = (4 : Int32)
          · rw [if_pos c5] at hf
            refine lv_tableIn (off := 55) (tgt := 56) hx hb dX5_part_1 (by rw [c5]; decide) (by rw [c5]; decide) (by rw [c5]; rfl) (by decide) ?_
            refine lv_aload_n hx hb dX5_part_56 rfl (lv_at hl 0 rfl) ?_
            replace hf := b1_i hf
            obtain ⟨v10, e5, hf⟩ := hf
            refine mm_getI F hH mc_5 (k := 4) (by decide) (hts _ q594) (fun _ h => h) e5 dX5_part_57 ?_
            have h1 := Option.some.inj hf
            subst h1
            exact mm_reti F hH hr hlocks rfl rfl dX5_part_60
          · rw [if_neg c5] at hf
            refine lv_tableOut (tgt := 61) hx hb dX5_part_1 (by have h0 := lv_neT c1 (a := 0) rfl; have h1 := lv_neT c2 (a := 1) rfl; have h2 := lv_neT c3 (a := 2) rfl; have h3 := lv_neT c4 (a := 3) rfl; have h4 := lv_neT c5 (a := 4) rfl; omega) (by decide) ?_
            refine lv_aload_n hx hb dX5_part_61 rfl (lv_at hl 0 rfl) ?_
            replace hf := b1_i hf
            obtain ⟨v11, e6, hf⟩ := hf
            refine mm_getI F hH mc_5 (k := 5) (by decide) (hts _ q596) (fun _ h => h) e6 dX5_part_62 ?_
            have h1 := Option.some.inj hf
            subst h1
            exact mm_reti F hH hr hlocks rfl rfl dX5_part_65
/-! IslandHeap.report(I)I -/
abbrev rm_X0_report : Room := { frames := 1, cells := 0, slots := 0, locals := 22 }
set_option maxHeartbeats 4000000 in
theorem m_X0_report (l : Launch) (G : mm_G) (h0 : Nat) (x1 : Int32) (σ : mm_M) (rr : Int32) (hf : f_X0_report h0 x1 σ = some rr) : Met l yX0_report (ws_ yX0_report cX0_report 2 ((Option.some .int))) rm_X0_report (mm_Pc G [.ref h0, .int x1] σ) (mm_Qi G rr σ) 0 0 (mm_A G) := by
  refine mm_met (by decide) rfl rfl (by  exact Nat.le_of_ble_eq_true rfl) (fun p e s m below meth c ls F hH hr hlocks hname hl => ?_)
  have hl : lv_has ls 2 [(0, .ref h0), (1, .int x1)] := by  exact hl
  have F : mm_F p s m _ c RX0 cX0_report 2 G := F
  have hx := F.1
  have hb := F.2.1
  have hml := F.2.2.1
  have hown := F.2.2.2.1
  have hts := F.2.2.2.2.1
  unfold f_X0_report at hf
  refine lv_iload_n hx hb dX0_report_0 rfl (lv_at hl 1 rfl) ?_
  refine lv_iconst (v := 0) hx hb dX0_report_1 (by decide) ?_
  refine lv_iconst (v := 5) hx hb dX0_report_2 (by decide) ?_
  replace hf := b1_i hf
  obtain ⟨v1, e1, hf⟩ := hf
  refine mm_ci (va_runS (As := [.int x1, .int (0 : Int32), .int (5 : Int32)]) (rest := []) ⟨hx, hb, hml, hown, hts⟩ (m_X0_isIn l G x1 (0 : Int32) (5 : Int32) σ v1 e1) (va_cwS 3 hts (lw_S q216 q217 q62 q218) rfl rfl rfl (by decide +kernel) ⟨Nat.le_of_ble_eq_true rfl, Nat.le_of_ble_eq_true rfl⟩) (mm_preS F.2.2.2.2.2 hH) rfl rfl hl.1 rfl (lv_room (Nat.le_of_ble_eq_true rfl)) dX0_report_3 ⟨Nat.le_of_ble_eq_true rfl, Nat.le_of_ble_eq_true rfl⟩) hH (fun H locs hH => ?_)
  refine lv_if_ne (tgt := 12) hx hb dX0_report_6 (by decide) (fun c2 => ?_) (fun c2 => ?_)
  · rw [if_neg c2] at hf
    refine lv_aload_n hx hb dX0_report_12 rfl (lv_at hl 0 rfl) ?_
    replace hf := b1_i hf
    obtain ⟨q3, e2, hf⟩ := hf
    refine mm_getA F hH mc_0 (k := 0) (by decide) (hts _ q185) (fun _ h => h) e2 dX0_report_13 ?_
    replace hf := b1_i hf
    obtain ⟨p4, e3, hf⟩ := hf
    refine mm_getRN F hH mc_1 (k := 9) (by decide) q155 (fun _ h => h) e3 dX0_report_16 ?_
    cases p4 with
    | none =>
      rw [mt_n] at hf
      refine lv_ifnonnullN hx hb dX0_report_19 ?_
      refine lv_ldc (v := (-1000003)) hx hb hown (hts _ q555) dX0_report_22 ?_
      refine lv_goto (tgt := 38) hx hb dX0_report_24 (by decide) ?_
      have h1 := Option.some.inj hf
      subst h1
      exact mm_reti F hH hr hlocks rfl rfl dX0_report_38
    | some q5 =>
      rw [mt_s] at hf
      refine lv_ifnonnull (tgt := 27) hx hb dX0_report_19 (by decide) ?_
      refine lv_aload_n hx hb dX0_report_27 rfl (lv_at hl 0 rfl) ?_
      replace hf := b1_i hf
      obtain ⟨q6, e4, hf⟩ := hf
      refine mm_getA F hH mc_0 (k := 0) (by decide) (hts _ q185) (fun _ h => h) e4 dX0_report_28 ?_
      replace hf := b1_i hf
      obtain ⟨p7, e5, hf⟩ := hf
      refine mm_getRN F hH mc_1 (k := 9) (by decide) q155 (fun _ h => h) e5 dX0_report_31 ?_
      refine lv_iload_n hx hb dX0_report_34 rfl (lv_at hl 1 rfl) ?_
      replace hf := b1_i hf
      obtain ⟨q8, e6, hf⟩ := hf
      subst e6
      replace hf := b1_i hf
      obtain ⟨u, e7, hf⟩ := hf
      obtain ⟨fs, ek⟩ := ck_i e7
      replace hf := b1_i hf
      obtain ⟨v9, e8, hf⟩ := hf
      refine mm_ci (va_runV (As := [.int x1]) (rest := []) ⟨hx, hb, hml, hown, hts⟩ (m_X5_part l G q8 x1 σ v9 e8) (cwV 1 hts (lw_V q649 q650 q651 q78 q652) rfl rfl rfl (by decide +kernel) ⟨Nat.le_of_ble_eq_true rfl, Nat.le_of_ble_eq_true rfl⟩) (mm_preV F.2.2.2.2.2 hH (ci := 5) rfl ek) rfl rfl hl.1 rfl (lv_room (Nat.le_of_ble_eq_true rfl)) dX0_report_35 ⟨Nat.le_of_ble_eq_true rfl, Nat.le_of_ble_eq_true rfl⟩) hH (fun H locs hH => ?_)
      have h1 := Option.some.inj hf
      subst h1
      exact mm_reti F hH hr hlocks rfl rfl dX0_report_38
  · rw [if_pos c2] at hf
    refine lv_ldc (v := (-1000002)) hx hb hown (hts _ q219) dX0_report_9 ?_
    have h1 := Option.some.inj hf
    subst h1
    exact mm_reti F hH hr hlocks rfl rfl dX0_report_11
/-! IslandHeap.occupied()I -/
abbrev rm_X0_occupied : Room := { frames := 3, cells := 0, slots := 0, locals := 64 }
set_option maxHeartbeats 4000000 in
theorem w_X0_occupied_4 {p : Program} {l : Launch} {e : Env} {s : State} {m : MethodId} {av : Array Value} {below : List Frame} {meth : Method} {c : Code} {G : mm_G} {rr : Int32} {n : Nat} {σ : mm_M} {h0 : Nat} (F : mm_F p s m av c RX0 cX0_occupied 3 G) (hr : meth.sig.returnType = (Option.some .int)) (hlocks : meth.locks = false) (hname : meth.name = yX0_occupied.name) (IH4 : ∀ (x1 : Int32) (x2 : Int32) (H : Heap) (locs : List Loc) (ls : Array Slot), mm_H G s σ H locs → lv_has ls 3 [(0, .ref h0), (1, .int x1), (2, .int x2)] → itn (s_X0_occupied h0 σ) n (x1, x2) = some rr → W p l e rm_X0_occupied s m av below meth c H locs 0 0 (MQ below (mm_Qi G rr σ) av s 0 0 (mm_A G)) (F0 m 4 ls []))  (x1 : Int32) (x2 : Int32)  (hf : evn (s_X0_occupied h0 σ) n (g_X0_occupied_4 h0 x1 x2 σ) = some rr) {H : Heap} {locs : List Loc} {ls : Array Slot} (hH : mm_H G s σ H locs) (hl : lv_has ls 3 [(0, .ref h0), (1, .int x1), (2, .int x2)]) : W p l e rm_X0_occupied s m av below meth c H locs 0 0 (MQ below (mm_Qi G rr σ) av s 0 0 (mm_A G)) (F0 m 4 ls []) := by
  have hx := F.1
  have hb := F.2.1
  have hml := F.2.2.1
  have hown := F.2.2.2.1
  have hts := F.2.2.2.2.1
  unfold g_X0_occupied_4 at hf
  refine lv_iload_n hx hb dX0_occupied_4 rfl (lv_at hl 2 rfl) ?_
  refine lv_aload_n hx hb dX0_occupied_5 rfl (lv_at hl 0 rfl) ?_
  replace hf := evn_b1 hf
  obtain ⟨q1, e1, hf⟩ := hf
  refine mm_getA F hH mc_0 (k := 0) (by decide) (hts _ q185) (fun _ h => h) e1 dX0_occupied_6 ?_
  replace hf := evn_b1 hf
  obtain ⟨q2, e2, hf⟩ := hf
  refine mm_getAN F hH mc_1 (k := 2) (by decide) q139 (fun _ h => h) e2 dX0_occupied_9 ?_
  replace hf := evn_b1 hf
  obtain ⟨u, e3, hf⟩ := hf
  obtain ⟨fs, ek⟩ := ck_i e3
  replace hf := evn_b1 hf
  obtain ⟨v3, e4, hf⟩ := hf
  refine mm_ci (va_runV (As := []) (rest := [.int x2]) ⟨hx, hb, hml, hown, hts⟩ (m_J2_size l G q2 σ v3 e4) (cwV 0 hts (lw_V q661 q291 q292 q66 q293) rfl rfl rfl (by decide +kernel) ⟨Nat.le_of_ble_eq_true rfl, Nat.le_of_ble_eq_true rfl⟩) (mm_preV F.2.2.2.2.2 hH (ci := 15) rfl ek) rfl rfl hl.1 rfl (lv_room (Nat.le_of_ble_eq_true rfl)) dX0_occupied_12 ⟨Nat.le_of_ble_eq_true rfl, Nat.le_of_ble_eq_true rfl⟩) hH (fun H locs hH => ?_)
  refine lv_icmp_ge (tgt := 44) hx hb dX0_occupied_15 (by decide) (fun c4 => ?_) (fun c4 => ?_)
  · rw [if_pos c4] at hf
    refine lv_iload_n hx hb dX0_occupied_44 rfl (lv_at hl 1 rfl) ?_
    rw [evn_r] at hf
    have h1 := Option.some.inj hf
    subst h1
    exact mm_reti F hH hr hlocks rfl rfl dX0_occupied_45
  · rw [if_neg c4] at hf
    refine lv_iload_n hx hb dX0_occupied_18 rfl (lv_at hl 1 rfl) ?_
    refine lv_aload_n hx hb dX0_occupied_19 rfl (lv_at hl 0 rfl) ?_
    replace hf := evn_b1 hf
    obtain ⟨q5, e5, hf⟩ := hf
    refine mm_getA F hH mc_0 (k := 0) (by decide) (hts _ q185) (fun _ h => h) e5 dX0_occupied_20 ?_
    replace hf := evn_b1 hf
    obtain ⟨q6, e6, hf⟩ := hf
    refine mm_getAN F hH mc_1 (k := 2) (by decide) q139 (fun _ h => h) e6 dX0_occupied_23 ?_
    refine lv_iload_n hx hb dX0_occupied_26 rfl (lv_at hl 2 rfl) ?_
    replace hf := evn_b1 hf
    obtain ⟨u, e7, hf⟩ := hf
    obtain ⟨fs, ek⟩ := ck_i e7
    replace hf := evn_b1 hf
    obtain ⟨p7, e8, hf⟩ := hf
    refine mm_cq (va_runV (As := [.int x2]) (rest := [.int x1]) ⟨hx, hb, hml, hown, hts⟩ (m_J2_get l G q6 x2 σ p7 e8) (cwV 1 hts (lw_V q662 q295 q296 q66 q297) rfl rfl rfl (by decide +kernel) ⟨Nat.le_of_ble_eq_true rfl, Nat.le_of_ble_eq_true rfl⟩) (mm_preV F.2.2.2.2.2 hH (ci := 15) rfl ek) rfl rfl hl.1 rfl (lv_room (Nat.le_of_ble_eq_true rfl)) dX0_occupied_27 ⟨Nat.le_of_ble_eq_true rfl, Nat.le_of_ble_eq_true rfl⟩) hH (fun H locs hH => ?_)
    replace hf := evn_b1 hf
    obtain ⟨q8, e9, hf⟩ := hf
    subst e9
    replace hf := evn_b1 hf
    obtain ⟨u, e10, hf⟩ := hf
    refine mm_cast F hH mc_3 (hts _ q182) e10 dX0_occupied_30 ?_
    replace hf := evn_b1 hf
    obtain ⟨u, e11, hf⟩ := hf
    obtain ⟨fs, ek⟩ := ck_i e11
    replace hf := evn_b1 hf
    obtain ⟨v9, e12, hf⟩ := hf
    refine mm_ci (va_runV (As := []) (rest := [.int x1]) ⟨hx, hb, hml, hown, hts⟩ (m_X3_size l G q8 σ v9 e12) (cwV 0 hts (lw_V q663 q241 q242 q68 q243) rfl rfl rfl (by decide +kernel) ⟨Nat.le_of_ble_eq_true rfl, Nat.le_of_ble_eq_true rfl⟩) (mm_preV F.2.2.2.2.2 hH (ci := 3) rfl ek) rfl rfl hl.1 rfl (lv_room (Nat.le_of_ble_eq_true rfl)) dX0_occupied_33 ⟨Nat.le_of_ble_eq_true rfl, Nat.le_of_ble_eq_true rfl⟩) hH (fun H locs hH => ?_)
    refine lv_iadd hx hb dX0_occupied_36 ?_
    refine lv_istore_n (lv' := [(1, .int (x1 + v9)), (0, .ref h0), (2, .int x2)]) hx hb dX0_occupied_37 rfl hl (by decide) rfl (fun ls hl => ?_)
    refine lv_iinc (v := x2 + (1 : Int32)) (lv' := [(2, .int (x2 + (1 : Int32))), (1, .int (x1 + v9)), (0, .ref h0)]) hx hb dX0_occupied_38 hl (k := 2) rfl rfl (by decide) rfl (fun ls hl => ?_)
    refine lv_goto (tgt := 4) hx hb dX0_occupied_41 (by decide) ?_
    rw [evn_l] at hf
    exact IH4 (x1 + v9) (x2 + (1 : Int32)) _ _ _ hH (lv_sub hl [2, 1, 0] rfl) hf
set_option maxHeartbeats 4000000 in
theorem w_X0_occupied_0 {p : Program} {l : Launch} {e : Env} {s : State} {m : MethodId} {av : Array Value} {below : List Frame} {meth : Method} {c : Code} {G : mm_G} {rr : Int32} {n : Nat} {σ : mm_M} {h0 : Nat} (F : mm_F p s m av c RX0 cX0_occupied 3 G) (hr : meth.sig.returnType = (Option.some .int)) (hlocks : meth.locks = false) (hname : meth.name = yX0_occupied.name) (IH4 : ∀ (x1 : Int32) (x2 : Int32) (H : Heap) (locs : List Loc) (ls : Array Slot), mm_H G s σ H locs → lv_has ls 3 [(0, .ref h0), (1, .int x1), (2, .int x2)] → itn (s_X0_occupied h0 σ) n (x1, x2) = some rr → W p l e rm_X0_occupied s m av below meth c H locs 0 0 (MQ below (mm_Qi G rr σ) av s 0 0 (mm_A G)) (F0 m 4 ls []))    (hf : evn (s_X0_occupied h0 σ) n (g_X0_occupied_0 h0 σ) = some rr) {H : Heap} {locs : List Loc} {ls : Array Slot} (hH : mm_H G s σ H locs) (hl : lv_has ls 3 [(0, .ref h0)]) : W p l e rm_X0_occupied s m av below meth c H locs 0 0 (MQ below (mm_Qi G rr σ) av s 0 0 (mm_A G)) (F0 m 0 ls []) := by
  have hx := F.1
  have hb := F.2.1
  have hml := F.2.2.1
  have hown := F.2.2.2.1
  have hts := F.2.2.2.2.1
  unfold g_X0_occupied_0 at hf
  refine lv_iconst (v := 0) hx hb dX0_occupied_0 (by decide) ?_
  refine lv_istore_n (lv' := [(1, .int (0 : Int32)), (0, .ref h0)]) hx hb dX0_occupied_1 rfl hl (by decide) rfl (fun ls hl => ?_)
  refine lv_iconst (v := 0) hx hb dX0_occupied_2 (by decide) ?_
  refine lv_istore_n (lv' := [(2, .int (0 : Int32)), (1, .int (0 : Int32)), (0, .ref h0)]) hx hb dX0_occupied_3 rfl hl (by decide) rfl (fun ls hl => ?_)
  rw [evn_l] at hf
  exact IH4 (0 : Int32) (0 : Int32) _ _ _ hH (lv_sub hl [2, 1, 0] rfl) hf
set_option maxHeartbeats 4000000 in
theorem l_X0_occupied {p : Program} {l : Launch} {e : Env} {s : State} {m : MethodId} {av : Array Value} {below : List Frame} {meth : Method} {c : Code} {G : mm_G} {rr : Int32} {σ : mm_M} {h0 : Nat} (F : mm_F p s m av c RX0 cX0_occupied 3 G) (hr : meth.sig.returnType = (Option.some .int)) (hlocks : meth.locks = false) (hname : meth.name = yX0_occupied.name) : ∀ n : Nat, (∀ (x1 : Int32) (x2 : Int32) (H : Heap) (locs : List Loc) (ls : Array Slot), mm_H G s σ H locs → lv_has ls 3 [(0, .ref h0), (1, .int x1), (2, .int x2)] → itn (s_X0_occupied h0 σ) n (x1, x2) = some rr → W p l e rm_X0_occupied s m av below meth c H locs 0 0 (MQ below (mm_Qi G rr σ) av s 0 0 (mm_A G)) (F0 m 4 ls [])) := by
  intro n
  induction n with
  | zero =>
    exact fun x1 x2 H locs ls hH hl hf => by cases hf
  | succ n ih =>
    have IH4 := ih
    intro x1 x2 H locs ls hH hl hf
    rw [itn_s] at hf
    exact w_X0_occupied_4 F hr hlocks hname IH4 x1 x2 hf hH hl
set_option maxHeartbeats 4000000 in
theorem m_X0_occupied (l : Launch) (G : mm_G) (h0 : Nat) (σ : mm_M) (rr : Int32) (hf : f_X0_occupied h0 σ = some rr) : Met l yX0_occupied (ws_ yX0_occupied cX0_occupied 3 ((Option.some .int))) rm_X0_occupied (mm_Pc G [.ref h0] σ) (mm_Qi G rr σ) 0 0 (mm_A G) := by
  refine mm_met (by decide) rfl rfl (by  exact Nat.le_of_ble_eq_true rfl) (fun p e s m below meth c ls F hH hr hlocks hname hl => ?_)
  have hl : lv_has ls 3 [(0, .ref h0)] := by  exact hl
  have F : mm_F p s m _ c RX0 cX0_occupied 3 G := F
  unfold f_X0_occupied at hf
  obtain ⟨n, hf⟩ := lgo_i hf
  have IH := l_X0_occupied (l := l) (e := e) (below := below) (rr := rr) (σ := σ) (h0 := h0) F hr hlocks hname n
  exact w_X0_occupied_0 F hr hlocks hname IH  hf hH (lv_sub hl [0] rfl)
/-! IslandHeap$Marking.words()I -/
abbrev rm_X4_words : Room := { frames := 3, cells := 0, slots := 0, locals := 64 }
set_option maxHeartbeats 4000000 in
theorem w_X4_words_4 {p : Program} {l : Launch} {e : Env} {s : State} {m : MethodId} {av : Array Value} {below : List Frame} {meth : Method} {c : Code} {G : mm_G} {rr : Int32} {n : Nat} {σ : mm_M} {h0 : Nat} (F : mm_F p s m av c RX4 cX4_words 3 G) (hr : meth.sig.returnType = (Option.some .int)) (hlocks : meth.locks = false) (hname : meth.name = yX4_words.name) (IH4 : ∀ (x1 : Int32) (x2 : Int32) (H : Heap) (locs : List Loc) (ls : Array Slot), mm_H G s σ H locs → lv_has ls 3 [(0, .ref h0), (1, .int x1), (2, .int x2)] → itn (s_X4_words h0 σ) n (x1, x2) = some rr → W p l e rm_X4_words s m av below meth c H locs 0 0 (MQ below (mm_Qi G rr σ) av s 0 0 (mm_A G)) (F0 m 4 ls []))  (x1 : Int32) (x2 : Int32)  (hf : evn (s_X4_words h0 σ) n (g_X4_words_4 h0 x1 x2 σ) = some rr) {H : Heap} {locs : List Loc} {ls : Array Slot} (hH : mm_H G s σ H locs) (hl : lv_has ls 3 [(0, .ref h0), (1, .int x1), (2, .int x2)]) : W p l e rm_X4_words s m av below meth c H locs 0 0 (MQ below (mm_Qi G rr σ) av s 0 0 (mm_A G)) (F0 m 4 ls []) := by
  have hx := F.1
  have hb := F.2.1
  have hml := F.2.2.1
  have hown := F.2.2.2.1
  have hts := F.2.2.2.2.1
  unfold g_X4_words_4 at hf
  refine lv_iload_n hx hb dX4_words_4 rfl (lv_at hl 2 rfl) ?_
  refine lv_aload_n hx hb dX4_words_5 rfl (lv_at hl 0 rfl) ?_
  replace hf := evn_b1 hf
  obtain ⟨q1, e1, hf⟩ := hf
  refine mm_getA F hH mc_4 (k := 0) (by decide) (hts _ q457) (fun _ h => h) e1 dX4_words_6 ?_
  replace hf := evn_b1 hf
  obtain ⟨q2, e2, hf⟩ := hf
  refine mm_getAN F hH mc_1 (k := 2) (by decide) q138 (fun _ h => h) e2 dX4_words_9 ?_
  replace hf := evn_b1 hf
  obtain ⟨u, e3, hf⟩ := hf
  obtain ⟨fs, ek⟩ := ck_i e3
  replace hf := evn_b1 hf
  obtain ⟨v3, e4, hf⟩ := hf
  refine mm_ci (va_runV (As := []) (rest := [.int x2]) ⟨hx, hb, hml, hown, hts⟩ (m_J2_size l G q2 σ v3 e4) (cwV 0 hts (lw_V q488 q291 q292 q66 q293) rfl rfl rfl (by decide +kernel) ⟨Nat.le_of_ble_eq_true rfl, Nat.le_of_ble_eq_true rfl⟩) (mm_preV F.2.2.2.2.2 hH (ci := 15) rfl ek) rfl rfl hl.1 rfl (lv_room (Nat.le_of_ble_eq_true rfl)) dX4_words_12 ⟨Nat.le_of_ble_eq_true rfl, Nat.le_of_ble_eq_true rfl⟩) hH (fun H locs hH => ?_)
  refine lv_icmp_ge (tgt := 68) hx hb dX4_words_15 (by decide) (fun c4 => ?_) (fun c4 => ?_)
  · rw [if_pos c4] at hf
    refine lv_iload_n hx hb dX4_words_68 rfl (lv_at hl 1 rfl) ?_
    rw [evn_r] at hf
    have h1 := Option.some.inj hf
    subst h1
    exact mm_reti F hH hr hlocks rfl rfl dX4_words_69
  · rw [if_neg c4] at hf
    refine lv_iload_n hx hb dX4_words_18 rfl (lv_at hl 1 rfl) ?_
    refine lv_aload_n hx hb dX4_words_19 rfl (lv_at hl 0 rfl) ?_
    replace hf := evn_b1 hf
    obtain ⟨q5, e5, hf⟩ := hf
    refine mm_getA F hH mc_4 (k := 0) (by decide) (hts _ q457) (fun _ h => h) e5 dX4_words_20 ?_
    replace hf := evn_b1 hf
    obtain ⟨q6, e6, hf⟩ := hf
    refine mm_getAN F hH mc_1 (k := 2) (by decide) q138 (fun _ h => h) e6 dX4_words_23 ?_
    refine lv_iload_n hx hb dX4_words_26 rfl (lv_at hl 2 rfl) ?_
    replace hf := evn_b1 hf
    obtain ⟨u, e7, hf⟩ := hf
    obtain ⟨fs, ek⟩ := ck_i e7
    replace hf := evn_b1 hf
    obtain ⟨p7, e8, hf⟩ := hf
    refine mm_cq (va_runV (As := [.int x2]) (rest := [.int x1]) ⟨hx, hb, hml, hown, hts⟩ (m_J2_get l G q6 x2 σ p7 e8) (cwV 1 hts (lw_V q489 q295 q296 q66 q297) rfl rfl rfl (by decide +kernel) ⟨Nat.le_of_ble_eq_true rfl, Nat.le_of_ble_eq_true rfl⟩) (mm_preV F.2.2.2.2.2 hH (ci := 15) rfl ek) rfl rfl hl.1 rfl (lv_room (Nat.le_of_ble_eq_true rfl)) dX4_words_27 ⟨Nat.le_of_ble_eq_true rfl, Nat.le_of_ble_eq_true rfl⟩) hH (fun H locs hH => ?_)
    replace hf := evn_b1 hf
    obtain ⟨q8, e9, hf⟩ := hf
    subst e9
    replace hf := evn_b1 hf
    obtain ⟨u, e10, hf⟩ := hf
    refine mm_cast F hH mc_3 (hts _ q490) e10 dX4_words_30 ?_
    replace hf := evn_b1 hf
    obtain ⟨v9, e11, hf⟩ := hf
    refine mm_getIN F hH mc_3 (k := 5) (by decide) q272 (fun _ h => h) e11 dX4_words_33 ?_
    refine lv_if_eq (tgt := 59) hx hb dX4_words_36 (by decide) (fun c10 => ?_) (fun c10 => ?_)
    · rw [if_pos c10] at hf
      refine lv_iconst (v := 0) hx hb dX4_words_59 (by decide) ?_
      refine lv_iadd hx hb dX4_words_60 ?_
      refine lv_istore_n (lv' := [(1, .int (x1 + (0 : Int32))), (0, .ref h0), (2, .int x2)]) hx hb dX4_words_61 rfl hl (by decide) rfl (fun ls hl => ?_)
      refine lv_iinc (v := x2 + (1 : Int32)) (lv' := [(2, .int (x2 + (1 : Int32))), (1, .int (x1 + (0 : Int32))), (0, .ref h0)]) hx hb dX4_words_62 hl (k := 2) rfl rfl (by decide) rfl (fun ls hl => ?_)
      refine lv_goto (tgt := 4) hx hb dX4_words_65 (by decide) ?_
      rw [evn_l] at hf
      exact IH4 (x1 + (0 : Int32)) (x2 + (1 : Int32)) _ _ _ hH (lv_sub hl [2, 1, 0] rfl) hf
    · rw [if_neg c10] at hf
      refine lv_aload_n hx hb dX4_words_39 rfl (lv_at hl 0 rfl) ?_
      replace hf := evn_b1 hf
      obtain ⟨q11, e12, hf⟩ := hf
      refine mm_getA F hH mc_4 (k := 0) (by decide) (hts _ q457) (fun _ h => h) e12 dX4_words_40 ?_
      replace hf := evn_b1 hf
      obtain ⟨q12, e13, hf⟩ := hf
      refine mm_getAN F hH mc_1 (k := 2) (by decide) q138 (fun _ h => h) e13 dX4_words_43 ?_
      refine lv_iload_n hx hb dX4_words_46 rfl (lv_at hl 2 rfl) ?_
      replace hf := evn_b1 hf
      obtain ⟨u, e14, hf⟩ := hf
      obtain ⟨fs, ek⟩ := ck_i e14
      replace hf := evn_b1 hf
      obtain ⟨p13, e15, hf⟩ := hf
      refine mm_cq (va_runV (As := [.int x2]) (rest := [.int x1]) ⟨hx, hb, hml, hown, hts⟩ (m_J2_get l G q12 x2 σ p13 e15) (cwV 1 hts (lw_V q489 q295 q296 q66 q297) rfl rfl rfl (by decide +kernel) ⟨Nat.le_of_ble_eq_true rfl, Nat.le_of_ble_eq_true rfl⟩) (mm_preV F.2.2.2.2.2 hH (ci := 15) rfl ek) rfl rfl hl.1 rfl (lv_room (Nat.le_of_ble_eq_true rfl)) dX4_words_47 ⟨Nat.le_of_ble_eq_true rfl, Nat.le_of_ble_eq_true rfl⟩) hH (fun H locs hH => ?_)
      replace hf := evn_b1 hf
      obtain ⟨q14, e16, hf⟩ := hf
      subst e16
      replace hf := evn_b1 hf
      obtain ⟨u, e17, hf⟩ := hf
      refine mm_cast F hH mc_3 (hts _ q490) e17 dX4_words_50 ?_
      replace hf := evn_b1 hf
      obtain ⟨u, e18, hf⟩ := hf
      obtain ⟨fs, ek⟩ := ck_i e18
      replace hf := evn_b1 hf
      obtain ⟨v15, e19, hf⟩ := hf
      refine mm_ci (va_runV (As := []) (rest := [.int x1]) ⟨hx, hb, hml, hown, hts⟩ (m_X3_size l G q14 σ v15 e19) (cwV 0 hts (lw_V q669 q241 q242 q68 q243) rfl rfl rfl (by decide +kernel) ⟨Nat.le_of_ble_eq_true rfl, Nat.le_of_ble_eq_true rfl⟩) (mm_preV F.2.2.2.2.2 hH (ci := 3) rfl ek) rfl rfl hl.1 rfl (lv_room (Nat.le_of_ble_eq_true rfl)) dX4_words_53 ⟨Nat.le_of_ble_eq_true rfl, Nat.le_of_ble_eq_true rfl⟩) hH (fun H locs hH => ?_)
      refine lv_goto (tgt := 60) hx hb dX4_words_56 (by decide) ?_
      refine lv_iadd hx hb dX4_words_60 ?_
      refine lv_istore_n (lv' := [(1, .int (x1 + v15)), (0, .ref h0), (2, .int x2)]) hx hb dX4_words_61 rfl hl (by decide) rfl (fun ls hl => ?_)
      refine lv_iinc (v := x2 + (1 : Int32)) (lv' := [(2, .int (x2 + (1 : Int32))), (1, .int (x1 + v15)), (0, .ref h0)]) hx hb dX4_words_62 hl (k := 2) rfl rfl (by decide) rfl (fun ls hl => ?_)
      refine lv_goto (tgt := 4) hx hb dX4_words_65 (by decide) ?_
      rw [evn_l] at hf
      exact IH4 (x1 + v15) (x2 + (1 : Int32)) _ _ _ hH (lv_sub hl [2, 1, 0] rfl) hf
set_option maxHeartbeats 4000000 in
theorem w_X4_words_0 {p : Program} {l : Launch} {e : Env} {s : State} {m : MethodId} {av : Array Value} {below : List Frame} {meth : Method} {c : Code} {G : mm_G} {rr : Int32} {n : Nat} {σ : mm_M} {h0 : Nat} (F : mm_F p s m av c RX4 cX4_words 3 G) (hr : meth.sig.returnType = (Option.some .int)) (hlocks : meth.locks = false) (hname : meth.name = yX4_words.name) (IH4 : ∀ (x1 : Int32) (x2 : Int32) (H : Heap) (locs : List Loc) (ls : Array Slot), mm_H G s σ H locs → lv_has ls 3 [(0, .ref h0), (1, .int x1), (2, .int x2)] → itn (s_X4_words h0 σ) n (x1, x2) = some rr → W p l e rm_X4_words s m av below meth c H locs 0 0 (MQ below (mm_Qi G rr σ) av s 0 0 (mm_A G)) (F0 m 4 ls []))    (hf : evn (s_X4_words h0 σ) n (g_X4_words_0 h0 σ) = some rr) {H : Heap} {locs : List Loc} {ls : Array Slot} (hH : mm_H G s σ H locs) (hl : lv_has ls 3 [(0, .ref h0)]) : W p l e rm_X4_words s m av below meth c H locs 0 0 (MQ below (mm_Qi G rr σ) av s 0 0 (mm_A G)) (F0 m 0 ls []) := by
  have hx := F.1
  have hb := F.2.1
  have hml := F.2.2.1
  have hown := F.2.2.2.1
  have hts := F.2.2.2.2.1
  unfold g_X4_words_0 at hf
  refine lv_iconst (v := 0) hx hb dX4_words_0 (by decide) ?_
  refine lv_istore_n (lv' := [(1, .int (0 : Int32)), (0, .ref h0)]) hx hb dX4_words_1 rfl hl (by decide) rfl (fun ls hl => ?_)
  refine lv_iconst (v := 0) hx hb dX4_words_2 (by decide) ?_
  refine lv_istore_n (lv' := [(2, .int (0 : Int32)), (1, .int (0 : Int32)), (0, .ref h0)]) hx hb dX4_words_3 rfl hl (by decide) rfl (fun ls hl => ?_)
  rw [evn_l] at hf
  exact IH4 (0 : Int32) (0 : Int32) _ _ _ hH (lv_sub hl [2, 1, 0] rfl) hf
set_option maxHeartbeats 4000000 in
theorem l_X4_words {p : Program} {l : Launch} {e : Env} {s : State} {m : MethodId} {av : Array Value} {below : List Frame} {meth : Method} {c : Code} {G : mm_G} {rr : Int32} {σ : mm_M} {h0 : Nat} (F : mm_F p s m av c RX4 cX4_words 3 G) (hr : meth.sig.returnType = (Option.some .int)) (hlocks : meth.locks = false) (hname : meth.name = yX4_words.name) : ∀ n : Nat, (∀ (x1 : Int32) (x2 : Int32) (H : Heap) (locs : List Loc) (ls : Array Slot), mm_H G s σ H locs → lv_has ls 3 [(0, .ref h0), (1, .int x1), (2, .int x2)] → itn (s_X4_words h0 σ) n (x1, x2) = some rr → W p l e rm_X4_words s m av below meth c H locs 0 0 (MQ below (mm_Qi G rr σ) av s 0 0 (mm_A G)) (F0 m 4 ls [])) := by
  intro n
  induction n with
  | zero =>
    exact fun x1 x2 H locs ls hH hl hf => by cases hf
  | succ n ih =>
    have IH4 := ih
    intro x1 x2 H locs ls hH hl hf
    rw [itn_s] at hf
    exact w_X4_words_4 F hr hlocks hname IH4 x1 x2 hf hH hl
set_option maxHeartbeats 4000000 in
theorem m_X4_words (l : Launch) (G : mm_G) (h0 : Nat) (σ : mm_M) (rr : Int32) (hf : f_X4_words h0 σ = some rr) : Met l yX4_words (ws_ yX4_words cX4_words 3 ((Option.some .int))) rm_X4_words (mm_Pc G [.ref h0] σ) (mm_Qi G rr σ) 0 0 (mm_A G) := by
  refine mm_met (by decide) rfl rfl (by  exact Nat.le_of_ble_eq_true rfl) (fun p e s m below meth c ls F hH hr hlocks hname hl => ?_)
  have hl : lv_has ls 3 [(0, .ref h0)] := by  exact hl
  have F : mm_F p s m _ c RX4 cX4_words 3 G := F
  unfold f_X4_words at hf
  obtain ⟨n, hf⟩ := lgo_i hf
  have IH := l_X4_words (l := l) (e := e) (below := below) (rr := rr) (σ := σ) (h0 := h0) F hr hlocks hname n
  exact w_X4_words_0 F hr hlocks hname IH  hf hH (lv_sub hl [0] rfl)
/-! IslandHeap.garbage()I -/
abbrev rm_X0_garbage : Room := { frames := 7, cells := 1, slots := 8, locals := 165 }
set_option maxHeartbeats 4000000 in
theorem m_X0_garbage (l : Launch) (G : mm_G) (h0 : Nat) (σ : mm_M) (σf : mm_M) (rr : Int32) (hf : f_X0_garbage h0 σ = some (rr, σf)) : Met l yX0_garbage (ws_ yX0_garbage cX0_garbage 1 ((Option.some .int))) rm_X0_garbage (mm_Pc G [.ref h0] σ) (mm_Qi G rr σf) 1 8 (mm_A G) := by
  refine mm_met (by decide) rfl rfl (by  exact Nat.le_of_ble_eq_true rfl) (fun p e s m below meth c ls F hH hr hlocks hname hl => ?_)
  have hl : lv_has ls 1 [(0, .ref h0)] := by  exact hl
  have F : mm_F p s m _ c RX0 cX0_garbage 1 G := F
  have hx := F.1
  have hb := F.2.1
  have hml := F.2.2.1
  have hown := F.2.2.2.1
  have hts := F.2.2.2.2.1
  unfold f_X0_garbage at hf
  refine lv_aload_n hx hb dX0_garbage_0 rfl (lv_at hl 0 rfl) ?_
  replace hf := b1_i hf
  obtain ⟨u, e1, hf⟩ := hf
  obtain ⟨fs, ek⟩ := ck_i e1
  replace hf := b1_i hf
  obtain ⟨v1, e2, hf⟩ := hf
  refine mm_ci (va_runV (As := []) (rest := []) ⟨hx, hb, hml, hown, hts⟩ (m_X0_occupied l G h0 σ v1 e2) (cwV 0 hts (lw_V q657 q659 qs16 q62 q660) rfl rfl rfl (by decide +kernel) ⟨Nat.le_of_ble_eq_true rfl, Nat.le_of_ble_eq_true rfl⟩) (mm_preV F.2.2.2.2.2 hH (ci := 0) rfl ek) rfl rfl hl.1 rfl (lv_room (Nat.le_of_ble_eq_true rfl)) dX0_garbage_1 ⟨Nat.le_of_ble_eq_true rfl, Nat.le_of_ble_eq_true rfl⟩) hH (fun H locs hH => ?_)
  refine lv_aload_n hx hb dX0_garbage_4 rfl (lv_at hl 0 rfl) ?_
  refine lv_null hx hb dX0_garbage_5 ?_
  replace hf := b1_i hf
  obtain ⟨u, e3, hf⟩ := hf
  obtain ⟨fs, ek⟩ := ck_i e3
  replace hf := b2_i hf
  obtain ⟨q2, σ3, e4, hf⟩ := hf
  refine mm_cq (va_runV (As := [va_rf none]) (rest := [.int v1]) ⟨hx, hb, hml, hown, hts⟩ (m_X0_live l G h0 none σ σ3 q2 e4) (cwV 1 hts (lw_V q664 q449 qs4 q62 q450) rfl rfl rfl (by decide +kernel) ⟨Nat.le_of_ble_eq_true rfl, Nat.le_of_ble_eq_true rfl⟩) (mm_preV F.2.2.2.2.2 hH (ci := 0) rfl ek) rfl rfl hl.1 rfl (lv_room (Nat.le_of_ble_eq_true rfl)) dX0_garbage_6 ⟨Nat.le_of_ble_eq_true rfl, Nat.le_of_ble_eq_true rfl⟩) hH (fun H locs hH => ?_)
  replace hf := b1_i hf
  obtain ⟨u, e5, hf⟩ := hf
  obtain ⟨fs, ek⟩ := ck_i e5
  replace hf := b1_i hf
  obtain ⟨v4, e6, hf⟩ := hf
  refine mm_ci (va_runV (As := []) (rest := [.int v1]) ⟨hx, hb, hml, hown, hts⟩ (m_X4_words l G q2 σ3 v4 e6) (cwV 0 hts (lw_V q665 q666 q667 q77 q668) rfl rfl rfl (by decide +kernel) ⟨Nat.le_of_ble_eq_true rfl, Nat.le_of_ble_eq_true rfl⟩) (mm_preV F.2.2.2.2.2 hH (ci := 4) rfl ek) rfl rfl hl.1 rfl (lv_room (Nat.le_of_ble_eq_true rfl)) dX0_garbage_9 ⟨Nat.le_of_ble_eq_true rfl, Nat.le_of_ble_eq_true rfl⟩) hH (fun H locs hH => ?_)
  refine lv_isub hx hb dX0_garbage_12 ?_
  obtain ⟨h1, h2⟩ := Prod.mk.inj (Option.some.inj hf)
  subst h1
  subst h2
  exact mm_reti F hH hr hlocks rfl rfl dX0_garbage_13
/-! IslandHeap$Rings.<init>(LIslandHeap;)V -/
abbrev rm_X6_init : Room := { frames := 1, cells := 0, slots := 0, locals := 30 }
set_option maxHeartbeats 4000000 in
theorem m_X6_init (l : Launch) (G : mm_G) (h0 : Nat) (a1 : Nat) (σ : mm_M) (σf : mm_M) (hf : f_X6_init h0 a1 σ = some σf) : Met l yX6_init (ws_ yX6_init cX6_init 2 ((Option.none : Option Jvm.ClassFile.FieldType))) rm_X6_init (mm_Pc G [.ref h0, .ref a1] σ) (mm_Qv G σf) 0 0 (mm_A G) := by
  refine mm_met (by decide) rfl rfl (by  exact Nat.le_of_ble_eq_true rfl) (fun p e s m below meth c ls F hH hr hlocks hname hl => ?_)
  have hl : lv_has ls 2 [(0, .ref h0), (1, .ref a1)] := by  exact hl
  have F : mm_F p s m _ c RX6 cX6_init 2 G := F
  have hx := F.1
  have hb := F.2.1
  have hml := F.2.2.1
  have hown := F.2.2.2.1
  have hts := F.2.2.2.2.1
  unfold f_X6_init at hf
  refine lv_aload_n hx hb dX6_init_0 rfl (lv_at hl 0 rfl) ?_
  refine lv_aload_n hx hb dX6_init_1 rfl (lv_at hl 1 rfl) ?_
  replace hf := b1_i hf
  obtain ⟨σ1, e1, hf⟩ := hf
  refine mm_putF F hH mc_6 (k := 2) (v := vR (some a1)) (by decide) (hts _ q682) (fun _ h => h) rfl hname rfl rfl rfl e1 dX6_init_2 (fun H locs hH => ?_)
  refine lv_aload_n hx hb dX6_init_5 rfl (lv_at hl 0 rfl) ?_
  refine W.objInit hx hb hown (hts _ q679) (hts _ q96) (hts _ q97) rfl (hl.1.trans hml.symm) rfl dX6_init_6 (Nat.le_of_ble_eq_true rfl) (Nat.le_of_ble_eq_true rfl) ?_
  refine W.eq (g2 := F0 m 9 ls []) rfl ?_
  refine lv_aload_n hx hb dX6_init_9 rfl (lv_at hl 0 rfl) ?_
  refine lv_aload_n hx hb dX6_init_10 rfl (lv_at hl 0 rfl) ?_
  replace hf := b1_i hf
  obtain ⟨q2, e2, hf⟩ := hf
  refine mm_getA F hH mc_6 (k := 2) (by decide) (hts _ q682) (fun _ h => h) e2 dX6_init_11 ?_
  replace hf := b1_i hf
  obtain ⟨q3, e3, hf⟩ := hf
  refine mm_getAN F hH mc_0 (k := 1) (by decide) q187 (fun _ h => h) e3 dX6_init_14 ?_
  replace hf := b1_i hf
  obtain ⟨σ4, e4, hf⟩ := hf
  refine mm_putF F hH mc_6 (k := 0) (v := vR (some q3)) (by decide) (hts _ q680) (fun _ h => h) rfl hname rfl rfl rfl e4 dX6_init_17 (fun H locs hH => ?_)
  have h1 := Option.some.inj hf
  subst h1
  exact mm_retv F hH hr hlocks dX6_init_20
/-! IslandHeap$Rings.add(LIslandHeap$Thing;)V -/
abbrev rm_X6_add : Room := { frames := 0, cells := 0, slots := 0, locals := 0 }
set_option maxHeartbeats 4000000 in
theorem m_X6_add (l : Launch) (G : mm_G) (h0 : Nat) (r1 : Option Nat) (σ : mm_M) (σf : mm_M) (hf : f_X6_add h0 r1 σ = some σf) : Met l yX6_add (ws_ yX6_add cX6_add 2 ((Option.none : Option Jvm.ClassFile.FieldType))) rm_X6_add (mm_Pc G [.ref h0, va_rf r1] σ) (mm_Qv G σf) 0 0 (mm_A G) := by
  refine mm_met (by decide) rfl rfl (by cases r1 <;> exact Nat.le_of_ble_eq_true rfl) (fun p e s m below meth c ls F hH hr hlocks hname hl => ?_)
  have hl : lv_has ls 2 [(0, .ref h0), (1, va_rf r1)] := by cases r1 <;> exact hl
  have F : mm_F p s m _ c RX6 cX6_add 2 G := F
  have hx := F.1
  have hb := F.2.1
  have hml := F.2.2.1
  have hown := F.2.2.2.1
  have hts := F.2.2.2.2.1
  unfold f_X6_add at hf
  refine mm_aload_n (r := r1) hx hb dX6_add_0 rfl (lv_at hl 1 rfl) ?_
  cases r1 with
  | none =>
    rw [mt_n] at hf
    refine lv_ifnullN (tgt := 36) hx hb dX6_add_1 (by decide) ?_
    have h1 := Option.some.inj hf
    subst h1
    exact mm_retv F hH hr hlocks dX6_add_36
  | some q1 =>
    rw [mt_s] at hf
    refine lv_ifnull hx hb dX6_add_1 ?_
    refine lv_aload_n hx hb dX6_add_4 rfl (lv_at hl 1 rfl) ?_
    replace hf := b1_i hf
    obtain ⟨v2, e1, hf⟩ := hf
    refine mm_getIN F hH mc_3 (k := 5) (by decide) q273 (fun _ h => h) e1 dX6_add_5 ?_
    refine lv_if_ne (tgt := 36) hx hb dX6_add_8 (by decide) (fun c3 => ?_) (fun c3 => ?_)
    · rw [if_neg c3] at hf
      have h1 := Option.some.inj hf
      subst h1
      exact mm_retv F hH hr hlocks dX6_add_36
    · rw [if_pos c3] at hf
      refine lv_aload_n hx hb dX6_add_11 rfl (lv_at hl 1 rfl) ?_
      refine lv_iconst (v := 1) hx hb dX6_add_12 (by decide) ?_
      replace hf := b1_i hf
      obtain ⟨σ4, e2, hf⟩ := hf
      refine mm_putN F hH mc_3 (k := 5) (v := vI (1 : Int32)) (by decide) q273 (fun _ h => h) rfl rfl rfl e2 dX6_add_13 (fun H locs hH => ?_)
      refine lv_aload_n hx hb dX6_add_16 rfl (lv_at hl 0 rfl) ?_
      replace hf := b1_i hf
      obtain ⟨q5, e3, hf⟩ := hf
      refine mm_getA F hH mc_6 (k := 0) (by decide) (hts _ q680) (fun _ h => h) e3 dX6_add_17 ?_
      refine lv_aload_n hx hb dX6_add_20 rfl (lv_at hl 0 rfl) ?_
      replace hf := b1_i hf
      obtain ⟨v6, e4, hf⟩ := hf
      refine mm_getI F hH mc_6 (k := 1) (by decide) (hts _ q681) (fun _ h => h) e4 dX6_add_21 ?_
      refine lv_aload_n hx hb dX6_add_24 rfl (lv_at hl 1 rfl) ?_
      replace hf := b1_i hf
      obtain ⟨σ7, e5, hf⟩ := hf
      refine mm_aast F hH (k := 3) (by decide) e5 dX6_add_25 (fun H locs hH => ?_)
      refine lv_aload_n hx hb dX6_add_26 rfl (lv_at hl 0 rfl) ?_
      refine lv_dup hx hb dX6_add_27 rfl ?_
      replace hf := b1_i hf
      obtain ⟨v8, e6, hf⟩ := hf
      refine mm_getI F hH mc_6 (k := 1) (by decide) (hts _ q681) (fun _ h => h) e6 dX6_add_28 ?_
      refine lv_iconst (v := 1) hx hb dX6_add_31 (by decide) ?_
      refine lv_iadd hx hb dX6_add_32 ?_
      replace hf := b1_i hf
      obtain ⟨σ9, e7, hf⟩ := hf
      refine mm_put F hH mc_6 (k := 1) (v := vI (v8 + (1 : Int32))) (by decide) (hts _ q681) (fun _ h => h) rfl rfl rfl e7 dX6_add_33 (fun H locs hH => ?_)
      have h1 := Option.some.inj hf
      subst h1
      exact mm_retv F hH hr hlocks dX6_add_36
/-! IslandHeap$Rings.distanceOf(LIslandHeap$Thing;)I -/
abbrev rm_X6_distanceOf : Room := { frames := 3, cells := 0, slots := 0, locals := 64 }
set_option maxHeartbeats 4000000 in
theorem w_X6_distanceOf_2 {p : Program} {l : Launch} {e : Env} {s : State} {m : MethodId} {av : Array Value} {below : List Frame} {meth : Method} {c : Code} {G : mm_G} {σf : mm_M} {rr : Int32} {n : Nat} {h0 : Nat} {a1 : Nat} (F : mm_F p s m av c RX6 cX6_distanceOf 9 G) (hr : meth.sig.returnType = (Option.some .int)) (hlocks : meth.locks = false) (hname : meth.name = yX6_distanceOf.name) (IH2 : ∀ (x2 : Int32) (σ : mm_M) (H : Heap) (locs : List Loc) (ls : Array Slot), mm_H G s σ H locs → lv_has ls 9 [(0, .ref h0), (1, .ref a1), (2, .int x2)] → itn (s_X6_distanceOf h0 a1) n (.inl (x2, σ)) = some (rr, σf) → W p l e rm_X6_distanceOf s m av below meth c H locs 0 0 (MQ below (mm_Qi G rr σf) av s 0 0 (mm_A G)) (F0 m 2 ls [])) (IH63 : ∀ (a2 : Nat) (x3 : Int32) (x4 : Int32) (σ : mm_M) (H : Heap) (locs : List Loc) (ls : Array Slot), mm_H G s σ H locs → lv_has ls 9 [(0, .ref h0), (1, .ref a1), (2, .ref a2), (3, .int x3), (4, .int x4)] → itn (s_X6_distanceOf h0 a1) n (.inr (.inl (a2, x3, x4, σ))) = some (rr, σf) → W p l e rm_X6_distanceOf s m av below meth c H locs 0 0 (MQ below (mm_Qi G rr σf) av s 0 0 (mm_A G)) (F0 m 63 ls [])) (IH99 : ∀ (x2 : Int32) (σ : mm_M) (H : Heap) (locs : List Loc) (ls : Array Slot), mm_H G s σ H locs → lv_has ls 9 [(0, .ref h0), (1, .ref a1), (2, .int x2)] → itn (s_X6_distanceOf h0 a1) n (.inr (.inr (.inl (x2, σ)))) = some (rr, σf) → W p l e rm_X6_distanceOf s m av below meth c H locs 0 0 (MQ below (mm_Qi G rr σf) av s 0 0 (mm_A G)) (F0 m 99 ls [])) (IH174 : ∀ (x2 : Int32) (x3 : Int32) (σ : mm_M) (H : Heap) (locs : List Loc) (ls : Array Slot), mm_H G s σ H locs → lv_has ls 9 [(0, .ref h0), (1, .ref a1), (2, .int x2), (3, .int x3)] → itn (s_X6_distanceOf h0 a1) n (.inr (.inr (.inr (.inl (x2, x3, σ))))) = some (rr, σf) → W p l e rm_X6_distanceOf s m av below meth c H locs 0 0 (MQ below (mm_Qi G rr σf) av s 0 0 (mm_A G)) (F0 m 174 ls [])) (IH195 : ∀ (x2 : Int32) (x3 : Int32) (x4 : Int32) (σ : mm_M) (H : Heap) (locs : List Loc) (ls : Array Slot), mm_H G s σ H locs → lv_has ls 9 [(0, .ref h0), (1, .ref a1), (2, .int x2), (3, .int x3), (4, .int x4)] → itn (s_X6_distanceOf h0 a1) n (.inr (.inr (.inr (.inr (.inl (x2, x3, x4, σ)))))) = some (rr, σf) → W p l e rm_X6_distanceOf s m av below meth c H locs 0 0 (MQ below (mm_Qi G rr σf) av s 0 0 (mm_A G)) (F0 m 195 ls [])) (IH220 : ∀ (x2 : Int32) (x3 : Int32) (x4 : Int32) (a5 : Nat) (x6 : Int32) (x7 : Int32) (σ : mm_M) (H : Heap) (locs : List Loc) (ls : Array Slot), mm_H G s σ H locs → lv_has ls 9 [(0, .ref h0), (1, .ref a1), (2, .int x2), (3, .int x3), (4, .int x4), (5, .ref a5), (6, .int x6), (7, .int x7)] → itn (s_X6_distanceOf h0 a1) n (.inr (.inr (.inr (.inr (.inr (x2, x3, x4, a5, x6, x7, σ)))))) = some (rr, σf) → W p l e rm_X6_distanceOf s m av below meth c H locs 0 0 (MQ below (mm_Qi G rr σf) av s 0 0 (mm_A G)) (F0 m 220 ls []))  (x2 : Int32)  (σ : mm_M) (hf : evn (s_X6_distanceOf h0 a1) n (g_X6_distanceOf_2 h0 a1 x2 σ) = some (rr, σf)) {H : Heap} {locs : List Loc} {ls : Array Slot} (hH : mm_H G s σ H locs) (hl : lv_has ls 9 [(0, .ref h0), (1, .ref a1), (2, .int x2)]) : W p l e rm_X6_distanceOf s m av below meth c H locs 0 0 (MQ below (mm_Qi G rr σf) av s 0 0 (mm_A G)) (F0 m 2 ls []) := by
  have hx := F.1
  have hb := F.2.1
  have hml := F.2.2.1
  have hown := F.2.2.2.1
  have hts := F.2.2.2.2.1
  unfold g_X6_distanceOf_2 at hf
  refine lv_iload_n hx hb dX6_distanceOf_2 rfl (lv_at hl 2 rfl) ?_
  refine lv_aload_n hx hb dX6_distanceOf_3 rfl (lv_at hl 0 rfl) ?_
  replace hf := evn_b1 hf
  obtain ⟨q1, e1, hf⟩ := hf
  refine mm_getA F hH mc_6 (k := 2) (by decide) (hts _ q682) (fun _ h => h) e1 dX6_distanceOf_4 ?_
  replace hf := evn_b1 hf
  obtain ⟨q2, e2, hf⟩ := hf
  refine mm_getAN F hH mc_0 (k := 0) (by decide) q186 (fun _ h => h) e2 dX6_distanceOf_7 ?_
  replace hf := evn_b1 hf
  obtain ⟨q3, e3, hf⟩ := hf
  refine mm_getAN F hH mc_1 (k := 2) (by decide) q137 (fun _ h => h) e3 dX6_distanceOf_10 ?_
  replace hf := evn_b1 hf
  obtain ⟨u, e4, hf⟩ := hf
  obtain ⟨fs, ek⟩ := ck_i e4
  replace hf := evn_b1 hf
  obtain ⟨v4, e5, hf⟩ := hf
  refine mm_ci (va_runV (As := []) (rest := [.int x2]) ⟨hx, hb, hml, hown, hts⟩ (m_J2_size l G q3 σ v4 e5) (cwV 0 hts (lw_V q694 q291 q292 q66 q293) rfl rfl rfl (by decide +kernel) ⟨Nat.le_of_ble_eq_true rfl, Nat.le_of_ble_eq_true rfl⟩) (mm_preV F.2.2.2.2.2 hH (ci := 15) rfl ek) rfl rfl hl.1 rfl (lv_room (Nat.le_of_ble_eq_true rfl)) dX6_distanceOf_13 ⟨Nat.le_of_ble_eq_true rfl, Nat.le_of_ble_eq_true rfl⟩) hH (fun H locs hH => ?_)
  refine lv_icmp_ge (tgt := 46) hx hb dX6_distanceOf_16 (by decide) (fun c5 => ?_) (fun c5 => ?_)
  · rw [if_pos c5] at hf
    refine lv_aload_n hx hb dX6_distanceOf_46 rfl (lv_at hl 0 rfl) ?_
    replace hf := evn_b1 hf
    obtain ⟨q6, e6, hf⟩ := hf
    refine mm_getA F hH mc_6 (k := 2) (by decide) (hts _ q682) (fun _ h => h) e6 dX6_distanceOf_47 ?_
    replace hf := evn_b1 hf
    obtain ⟨q7, e7, hf⟩ := hf
    refine mm_getAN F hH mc_0 (k := 0) (by decide) q186 (fun _ h => h) e7 dX6_distanceOf_50 ?_
    replace hf := evn_b1 hf
    obtain ⟨q8, e8, hf⟩ := hf
    refine mm_getAN F hH mc_1 (k := 4) (by decide) q143 (fun _ h => h) e8 dX6_distanceOf_53 ?_
    refine lv_astore_n (lv' := [(2, .ref q8), (0, .ref h0), (1, .ref a1)]) hx hb dX6_distanceOf_56 rfl hl (by decide) rfl (fun ls hl => ?_)
    refine lv_aload_n hx hb dX6_distanceOf_57 rfl (lv_at hl 0 rfl) ?_
    replace hf := evn_b1 hf
    obtain ⟨v9, e9, hf⟩ := hf
    refine mm_alen F hH e9 dX6_distanceOf_58 ?_
    refine lv_istore_n (lv' := [(3, .int v9), (2, .ref q8), (0, .ref h0), (1, .ref a1)]) hx hb dX6_distanceOf_59 rfl hl (by decide) rfl (fun ls hl => ?_)
    refine lv_iconst (v := 0) hx hb dX6_distanceOf_60 (by decide) ?_
    refine lv_istore (lv' := [(4, .int (0 : Int32)), (3, .int v9), (2, .ref q8), (0, .ref h0), (1, .ref a1)]) hx hb dX6_distanceOf_61 hl (by decide) rfl (fun ls hl => ?_)
    rw [evn_l] at hf
    exact IH63 q8 v9 (0 : Int32) σ _ _ _ hH (lv_sub hl [3, 4, 2, 1, 0] rfl) hf
  · rw [if_neg c5] at hf
    refine lv_aload_n hx hb dX6_distanceOf_19 rfl (lv_at hl 0 rfl) ?_
    replace hf := evn_b1 hf
    obtain ⟨q10, e10, hf⟩ := hf
    refine mm_getA F hH mc_6 (k := 2) (by decide) (hts _ q682) (fun _ h => h) e10 dX6_distanceOf_20 ?_
    replace hf := evn_b1 hf
    obtain ⟨q11, e11, hf⟩ := hf
    refine mm_getAN F hH mc_0 (k := 0) (by decide) q186 (fun _ h => h) e11 dX6_distanceOf_23 ?_
    replace hf := evn_b1 hf
    obtain ⟨q12, e12, hf⟩ := hf
    refine mm_getAN F hH mc_1 (k := 2) (by decide) q137 (fun _ h => h) e12 dX6_distanceOf_26 ?_
    refine lv_iload_n hx hb dX6_distanceOf_29 rfl (lv_at hl 2 rfl) ?_
    replace hf := evn_b1 hf
    obtain ⟨u, e13, hf⟩ := hf
    obtain ⟨fs, ek⟩ := ck_i e13
    replace hf := evn_b1 hf
    obtain ⟨p13, e14, hf⟩ := hf
    refine mm_cq (va_runV (As := [.int x2]) (rest := []) ⟨hx, hb, hml, hown, hts⟩ (m_J2_get l G q12 x2 σ p13 e14) (cwV 1 hts (lw_V q695 q295 q296 q66 q297) rfl rfl rfl (by decide +kernel) ⟨Nat.le_of_ble_eq_true rfl, Nat.le_of_ble_eq_true rfl⟩) (mm_preV F.2.2.2.2.2 hH (ci := 15) rfl ek) rfl rfl hl.1 rfl (lv_room (Nat.le_of_ble_eq_true rfl)) dX6_distanceOf_30 ⟨Nat.le_of_ble_eq_true rfl, Nat.le_of_ble_eq_true rfl⟩) hH (fun H locs hH => ?_)
    replace hf := evn_b1 hf
    obtain ⟨q14, e15, hf⟩ := hf
    subst e15
    replace hf := evn_b1 hf
    obtain ⟨u, e16, hf⟩ := hf
    refine mm_cast F hH mc_3 (hts _ q696) e16 dX6_distanceOf_33 ?_
    refine lv_iconst (v := 0) hx hb dX6_distanceOf_36 (by decide) ?_
    replace hf := evn_b1 hf
    obtain ⟨σ15, e17, hf⟩ := hf
    refine mm_putN F hH mc_3 (k := 5) (v := vI (0 : Int32)) (by decide) q273 (fun _ h => h) rfl rfl rfl e17 dX6_distanceOf_37 (fun H locs hH => ?_)
    refine lv_iinc (v := x2 + (1 : Int32)) (lv' := [(2, .int (x2 + (1 : Int32))), (0, .ref h0), (1, .ref a1)]) hx hb dX6_distanceOf_40 hl (k := 2) rfl rfl (by decide) rfl (fun ls hl => ?_)
    refine lv_goto (tgt := 2) hx hb dX6_distanceOf_43 (by decide) ?_
    rw [evn_l] at hf
    exact IH2 (x2 + (1 : Int32)) σ15 _ _ _ hH (lv_sub hl [1, 2, 0] rfl) hf
set_option maxHeartbeats 4000000 in
theorem w_X6_distanceOf_63 {p : Program} {l : Launch} {e : Env} {s : State} {m : MethodId} {av : Array Value} {below : List Frame} {meth : Method} {c : Code} {G : mm_G} {σf : mm_M} {rr : Int32} {n : Nat} {h0 : Nat} {a1 : Nat} (F : mm_F p s m av c RX6 cX6_distanceOf 9 G) (hr : meth.sig.returnType = (Option.some .int)) (hlocks : meth.locks = false) (hname : meth.name = yX6_distanceOf.name) (IH2 : ∀ (x2 : Int32) (σ : mm_M) (H : Heap) (locs : List Loc) (ls : Array Slot), mm_H G s σ H locs → lv_has ls 9 [(0, .ref h0), (1, .ref a1), (2, .int x2)] → itn (s_X6_distanceOf h0 a1) n (.inl (x2, σ)) = some (rr, σf) → W p l e rm_X6_distanceOf s m av below meth c H locs 0 0 (MQ below (mm_Qi G rr σf) av s 0 0 (mm_A G)) (F0 m 2 ls [])) (IH63 : ∀ (a2 : Nat) (x3 : Int32) (x4 : Int32) (σ : mm_M) (H : Heap) (locs : List Loc) (ls : Array Slot), mm_H G s σ H locs → lv_has ls 9 [(0, .ref h0), (1, .ref a1), (2, .ref a2), (3, .int x3), (4, .int x4)] → itn (s_X6_distanceOf h0 a1) n (.inr (.inl (a2, x3, x4, σ))) = some (rr, σf) → W p l e rm_X6_distanceOf s m av below meth c H locs 0 0 (MQ below (mm_Qi G rr σf) av s 0 0 (mm_A G)) (F0 m 63 ls [])) (IH99 : ∀ (x2 : Int32) (σ : mm_M) (H : Heap) (locs : List Loc) (ls : Array Slot), mm_H G s σ H locs → lv_has ls 9 [(0, .ref h0), (1, .ref a1), (2, .int x2)] → itn (s_X6_distanceOf h0 a1) n (.inr (.inr (.inl (x2, σ)))) = some (rr, σf) → W p l e rm_X6_distanceOf s m av below meth c H locs 0 0 (MQ below (mm_Qi G rr σf) av s 0 0 (mm_A G)) (F0 m 99 ls [])) (IH174 : ∀ (x2 : Int32) (x3 : Int32) (σ : mm_M) (H : Heap) (locs : List Loc) (ls : Array Slot), mm_H G s σ H locs → lv_has ls 9 [(0, .ref h0), (1, .ref a1), (2, .int x2), (3, .int x3)] → itn (s_X6_distanceOf h0 a1) n (.inr (.inr (.inr (.inl (x2, x3, σ))))) = some (rr, σf) → W p l e rm_X6_distanceOf s m av below meth c H locs 0 0 (MQ below (mm_Qi G rr σf) av s 0 0 (mm_A G)) (F0 m 174 ls [])) (IH195 : ∀ (x2 : Int32) (x3 : Int32) (x4 : Int32) (σ : mm_M) (H : Heap) (locs : List Loc) (ls : Array Slot), mm_H G s σ H locs → lv_has ls 9 [(0, .ref h0), (1, .ref a1), (2, .int x2), (3, .int x3), (4, .int x4)] → itn (s_X6_distanceOf h0 a1) n (.inr (.inr (.inr (.inr (.inl (x2, x3, x4, σ)))))) = some (rr, σf) → W p l e rm_X6_distanceOf s m av below meth c H locs 0 0 (MQ below (mm_Qi G rr σf) av s 0 0 (mm_A G)) (F0 m 195 ls [])) (IH220 : ∀ (x2 : Int32) (x3 : Int32) (x4 : Int32) (a5 : Nat) (x6 : Int32) (x7 : Int32) (σ : mm_M) (H : Heap) (locs : List Loc) (ls : Array Slot), mm_H G s σ H locs → lv_has ls 9 [(0, .ref h0), (1, .ref a1), (2, .int x2), (3, .int x3), (4, .int x4), (5, .ref a5), (6, .int x6), (7, .int x7)] → itn (s_X6_distanceOf h0 a1) n (.inr (.inr (.inr (.inr (.inr (x2, x3, x4, a5, x6, x7, σ)))))) = some (rr, σf) → W p l e rm_X6_distanceOf s m av below meth c H locs 0 0 (MQ below (mm_Qi G rr σf) av s 0 0 (mm_A G)) (F0 m 220 ls []))  (a2 : Nat) (x3 : Int32) (x4 : Int32)  (σ : mm_M) (hf : evn (s_X6_distanceOf h0 a1) n (g_X6_distanceOf_63 h0 a1 a2 x3 x4 σ) = some (rr, σf)) {H : Heap} {locs : List Loc} {ls : Array Slot} (hH : mm_H G s σ H locs) (hl : lv_has ls 9 [(0, .ref h0), (1, .ref a1), (2, .ref a2), (3, .int x3), (4, .int x4)]) : W p l e rm_X6_distanceOf s m av below meth c H locs 0 0 (MQ below (mm_Qi G rr σf) av s 0 0 (mm_A G)) (F0 m 63 ls []) := by
  have hx := F.1
  have hb := F.2.1
  have hml := F.2.2.1
  have hown := F.2.2.2.1
  have hts := F.2.2.2.2.1
  unfold g_X6_distanceOf_63 at hf
  refine lv_iload hx hb dX6_distanceOf_63 (lv_at hl 4 rfl) ?_
  refine lv_iload_n hx hb dX6_distanceOf_65 rfl (lv_at hl 3 rfl) ?_
  refine lv_icmp_ge (tgt := 97) hx hb dX6_distanceOf_66 (by decide) (fun c1 => ?_) (fun c1 => ?_)
  · rw [if_pos c1] at hf
    refine lv_iconst (v := 0) hx hb dX6_distanceOf_97 (by decide) ?_
    refine lv_istore_n (lv' := [(2, .int (0 : Int32)), (0, .ref h0), (1, .ref a1), (3, .int x3), (4, .int x4)]) hx hb dX6_distanceOf_98 rfl hl (by decide) rfl (fun ls hl => ?_)
    rw [evn_l] at hf
    exact IH99 (0 : Int32) σ _ _ _ hH (lv_sub hl [1, 2, 0] rfl) hf
  · rw [if_neg c1] at hf
    refine lv_aload_n hx hb dX6_distanceOf_69 rfl (lv_at hl 2 rfl) ?_
    refine lv_iload hx hb dX6_distanceOf_70 (lv_at hl 4 rfl) ?_
    replace hf := evn_b1 hf
    obtain ⟨v2, e1, hf⟩ := hf
    refine mm_iald F hH e1 dX6_distanceOf_72 ?_
    refine lv_istore (lv' := [(5, .int v2), (0, .ref h0), (1, .ref a1), (2, .ref a2), (3, .int x3), (4, .int x4)]) hx hb dX6_distanceOf_73 hl (by decide) rfl (fun ls hl => ?_)
    refine lv_aload_n hx hb dX6_distanceOf_75 rfl (lv_at hl 1 rfl) ?_
    refine lv_aload_n hx hb dX6_distanceOf_76 rfl (lv_at hl 1 rfl) ?_
    replace hf := evn_b1 hf
    obtain ⟨q3, e2, hf⟩ := hf
    refine mm_getA F hH mc_6 (k := 2) (by decide) (hts _ q682) (fun _ h => h) e2 dX6_distanceOf_77 ?_
    replace hf := evn_b1 hf
    obtain ⟨q4, e3, hf⟩ := hf
    refine mm_getAN F hH mc_0 (k := 0) (by decide) q186 (fun _ h => h) e3 dX6_distanceOf_80 ?_
    refine lv_iload hx hb dX6_distanceOf_83 (lv_at hl 0 rfl) ?_
    replace hf := evn_b1 hf
    obtain ⟨u, e4, hf⟩ := hf
    obtain ⟨fs, ek⟩ := ck_i e4
    replace hf := evn_b1 hf
    obtain ⟨p5, e5, hf⟩ := hf
    refine mm_cq (va_runV (As := [.int v2]) (rest := [.ref h0]) ⟨hx, hb, hml, hown, hts⟩ (m_X1_target l G q4 v2 σ p5 e5) (cwV 1 hts (lw_V q697 q492 q493 q63 q494) rfl rfl rfl (by decide +kernel) ⟨Nat.le_of_ble_eq_true rfl, Nat.le_of_ble_eq_true rfl⟩) (mm_preV F.2.2.2.2.2 hH (ci := 1) rfl ek) rfl rfl hl.1 rfl (lv_room (Nat.le_of_ble_eq_true rfl)) dX6_distanceOf_85 ⟨Nat.le_of_ble_eq_true rfl, Nat.le_of_ble_eq_true rfl⟩) hH (fun H locs hH => ?_)
    replace hf := evn_b1 hf
    obtain ⟨u, e6, hf⟩ := hf
    obtain ⟨fs, ek⟩ := ck_i e6
    replace hf := evn_b1 hf
    obtain ⟨σ6, e7, hf⟩ := hf
    refine mm_cv (va_runV (As := [va_rf p5]) (rest := []) ⟨hx, hb, hml, hown, hts⟩ (m_X6_add l G h0 p5 σ σ6 e7) (cwV 1 hts (lw_V q698 q700 qs17 q79 q701) rfl rfl rfl (by decide +kernel) ⟨Nat.le_of_ble_eq_true rfl, Nat.le_of_ble_eq_true rfl⟩) (mm_preV F.2.2.2.2.2 hH (ci := 6) rfl ek) rfl rfl hl.1 rfl (lv_room (Nat.le_of_ble_eq_true rfl)) dX6_distanceOf_88 ⟨Nat.le_of_ble_eq_true rfl, Nat.le_of_ble_eq_true rfl⟩) hH (fun H locs hH => ?_)
    refine lv_iinc (v := x4 + (1 : Int32)) (lv' := [(4, .int (x4 + (1 : Int32))), (5, .int v2), (0, .ref h0), (1, .ref a1), (2, .ref a2), (3, .int x3)]) hx hb dX6_distanceOf_91 hl (k := 5) rfl rfl (by decide) rfl (fun ls hl => ?_)
    refine lv_goto (tgt := 63) hx hb dX6_distanceOf_94 (by decide) ?_
    rw [evn_l] at hf
    exact IH63 a2 x3 (x4 + (1 : Int32)) σ6 _ _ _ hH (lv_sub hl [2, 3, 4, 5, 0] rfl) hf
set_option maxHeartbeats 4000000 in
theorem w_X6_distanceOf_99 {p : Program} {l : Launch} {e : Env} {s : State} {m : MethodId} {av : Array Value} {below : List Frame} {meth : Method} {c : Code} {G : mm_G} {σf : mm_M} {rr : Int32} {n : Nat} {h0 : Nat} {a1 : Nat} (F : mm_F p s m av c RX6 cX6_distanceOf 9 G) (hr : meth.sig.returnType = (Option.some .int)) (hlocks : meth.locks = false) (hname : meth.name = yX6_distanceOf.name) (IH2 : ∀ (x2 : Int32) (σ : mm_M) (H : Heap) (locs : List Loc) (ls : Array Slot), mm_H G s σ H locs → lv_has ls 9 [(0, .ref h0), (1, .ref a1), (2, .int x2)] → itn (s_X6_distanceOf h0 a1) n (.inl (x2, σ)) = some (rr, σf) → W p l e rm_X6_distanceOf s m av below meth c H locs 0 0 (MQ below (mm_Qi G rr σf) av s 0 0 (mm_A G)) (F0 m 2 ls [])) (IH63 : ∀ (a2 : Nat) (x3 : Int32) (x4 : Int32) (σ : mm_M) (H : Heap) (locs : List Loc) (ls : Array Slot), mm_H G s σ H locs → lv_has ls 9 [(0, .ref h0), (1, .ref a1), (2, .ref a2), (3, .int x3), (4, .int x4)] → itn (s_X6_distanceOf h0 a1) n (.inr (.inl (a2, x3, x4, σ))) = some (rr, σf) → W p l e rm_X6_distanceOf s m av below meth c H locs 0 0 (MQ below (mm_Qi G rr σf) av s 0 0 (mm_A G)) (F0 m 63 ls [])) (IH99 : ∀ (x2 : Int32) (σ : mm_M) (H : Heap) (locs : List Loc) (ls : Array Slot), mm_H G s σ H locs → lv_has ls 9 [(0, .ref h0), (1, .ref a1), (2, .int x2)] → itn (s_X6_distanceOf h0 a1) n (.inr (.inr (.inl (x2, σ)))) = some (rr, σf) → W p l e rm_X6_distanceOf s m av below meth c H locs 0 0 (MQ below (mm_Qi G rr σf) av s 0 0 (mm_A G)) (F0 m 99 ls [])) (IH174 : ∀ (x2 : Int32) (x3 : Int32) (σ : mm_M) (H : Heap) (locs : List Loc) (ls : Array Slot), mm_H G s σ H locs → lv_has ls 9 [(0, .ref h0), (1, .ref a1), (2, .int x2), (3, .int x3)] → itn (s_X6_distanceOf h0 a1) n (.inr (.inr (.inr (.inl (x2, x3, σ))))) = some (rr, σf) → W p l e rm_X6_distanceOf s m av below meth c H locs 0 0 (MQ below (mm_Qi G rr σf) av s 0 0 (mm_A G)) (F0 m 174 ls [])) (IH195 : ∀ (x2 : Int32) (x3 : Int32) (x4 : Int32) (σ : mm_M) (H : Heap) (locs : List Loc) (ls : Array Slot), mm_H G s σ H locs → lv_has ls 9 [(0, .ref h0), (1, .ref a1), (2, .int x2), (3, .int x3), (4, .int x4)] → itn (s_X6_distanceOf h0 a1) n (.inr (.inr (.inr (.inr (.inl (x2, x3, x4, σ)))))) = some (rr, σf) → W p l e rm_X6_distanceOf s m av below meth c H locs 0 0 (MQ below (mm_Qi G rr σf) av s 0 0 (mm_A G)) (F0 m 195 ls [])) (IH220 : ∀ (x2 : Int32) (x3 : Int32) (x4 : Int32) (a5 : Nat) (x6 : Int32) (x7 : Int32) (σ : mm_M) (H : Heap) (locs : List Loc) (ls : Array Slot), mm_H G s σ H locs → lv_has ls 9 [(0, .ref h0), (1, .ref a1), (2, .int x2), (3, .int x3), (4, .int x4), (5, .ref a5), (6, .int x6), (7, .int x7)] → itn (s_X6_distanceOf h0 a1) n (.inr (.inr (.inr (.inr (.inr (x2, x3, x4, a5, x6, x7, σ)))))) = some (rr, σf) → W p l e rm_X6_distanceOf s m av below meth c H locs 0 0 (MQ below (mm_Qi G rr σf) av s 0 0 (mm_A G)) (F0 m 220 ls []))  (x2 : Int32)  (σ : mm_M) (hf : evn (s_X6_distanceOf h0 a1) n (g_X6_distanceOf_99 h0 a1 x2 σ) = some (rr, σf)) {H : Heap} {locs : List Loc} {ls : Array Slot} (hH : mm_H G s σ H locs) (hl : lv_has ls 9 [(0, .ref h0), (1, .ref a1), (2, .int x2)]) : W p l e rm_X6_distanceOf s m av below meth c H locs 0 0 (MQ below (mm_Qi G rr σf) av s 0 0 (mm_A G)) (F0 m 99 ls []) := by
  have hx := F.1
  have hb := F.2.1
  have hml := F.2.2.1
  have hown := F.2.2.2.1
  have hts := F.2.2.2.2.1
  unfold g_X6_distanceOf_99 at hf
  refine lv_iload_n hx hb dX6_distanceOf_99 rfl (lv_at hl 2 rfl) ?_
  refine lv_aload_n hx hb dX6_distanceOf_100 rfl (lv_at hl 0 rfl) ?_
  replace hf := evn_b1 hf
  obtain ⟨q1, e1, hf⟩ := hf
  refine mm_getA F hH mc_6 (k := 2) (by decide) (hts _ q682) (fun _ h => h) e1 dX6_distanceOf_101 ?_
  replace hf := evn_b1 hf
  obtain ⟨q2, e2, hf⟩ := hf
  refine mm_getAN F hH mc_0 (k := 0) (by decide) q186 (fun _ h => h) e2 dX6_distanceOf_104 ?_
  replace hf := evn_b1 hf
  obtain ⟨q3, e3, hf⟩ := hf
  refine mm_getAN F hH mc_1 (k := 2) (by decide) q137 (fun _ h => h) e3 dX6_distanceOf_107 ?_
  replace hf := evn_b1 hf
  obtain ⟨u, e4, hf⟩ := hf
  obtain ⟨fs, ek⟩ := ck_i e4
  replace hf := evn_b1 hf
  obtain ⟨v4, e5, hf⟩ := hf
  refine mm_ci (va_runV (As := []) (rest := [.int x2]) ⟨hx, hb, hml, hown, hts⟩ (m_J2_size l G q3 σ v4 e5) (cwV 0 hts (lw_V q694 q291 q292 q66 q293) rfl rfl rfl (by decide +kernel) ⟨Nat.le_of_ble_eq_true rfl, Nat.le_of_ble_eq_true rfl⟩) (mm_preV F.2.2.2.2.2 hH (ci := 15) rfl ek) rfl rfl hl.1 rfl (lv_room (Nat.le_of_ble_eq_true rfl)) dX6_distanceOf_110 ⟨Nat.le_of_ble_eq_true rfl, Nat.le_of_ble_eq_true rfl⟩) hH (fun H locs hH => ?_)
  refine lv_icmp_ge (tgt := 170) hx hb dX6_distanceOf_113 (by decide) (fun c5 => ?_) (fun c5 => ?_)
  · rw [if_pos c5] at hf
    refine lv_iconst (v := 0) hx hb dX6_distanceOf_170 (by decide) ?_
    refine lv_istore_n (lv' := [(2, .int (0 : Int32)), (0, .ref h0), (1, .ref a1)]) hx hb dX6_distanceOf_171 rfl hl (by decide) rfl (fun ls hl => ?_)
    refine lv_iconst (v := 0) hx hb dX6_distanceOf_172 (by decide) ?_
    refine lv_istore_n (lv' := [(3, .int (0 : Int32)), (2, .int (0 : Int32)), (0, .ref h0), (1, .ref a1)]) hx hb dX6_distanceOf_173 rfl hl (by decide) rfl (fun ls hl => ?_)
    rw [evn_l] at hf
    exact IH174 (0 : Int32) (0 : Int32) σ _ _ _ hH (lv_sub hl [2, 3, 1, 0] rfl) hf
  · rw [if_neg c5] at hf
    refine lv_aload_n hx hb dX6_distanceOf_116 rfl (lv_at hl 0 rfl) ?_
    refine lv_aload_n hx hb dX6_distanceOf_117 rfl (lv_at hl 0 rfl) ?_
    replace hf := evn_b1 hf
    obtain ⟨q6, e6, hf⟩ := hf
    refine mm_getA F hH mc_6 (k := 2) (by decide) (hts _ q682) (fun _ h => h) e6 dX6_distanceOf_118 ?_
    replace hf := evn_b1 hf
    obtain ⟨q7, e7, hf⟩ := hf
    refine mm_getAN F hH mc_0 (k := 0) (by decide) q186 (fun _ h => h) e7 dX6_distanceOf_121 ?_
    replace hf := evn_b1 hf
    obtain ⟨q8, e8, hf⟩ := hf
    refine mm_getAN F hH mc_1 (k := 2) (by decide) q137 (fun _ h => h) e8 dX6_distanceOf_124 ?_
    refine lv_iload_n hx hb dX6_distanceOf_127 rfl (lv_at hl 2 rfl) ?_
    replace hf := evn_b1 hf
    obtain ⟨u, e9, hf⟩ := hf
    obtain ⟨fs, ek⟩ := ck_i e9
    replace hf := evn_b1 hf
    obtain ⟨p9, e10, hf⟩ := hf
    refine mm_cq (va_runV (As := [.int x2]) (rest := [.ref h0]) ⟨hx, hb, hml, hown, hts⟩ (m_J2_get l G q8 x2 σ p9 e10) (cwV 1 hts (lw_V q695 q295 q296 q66 q297) rfl rfl rfl (by decide +kernel) ⟨Nat.le_of_ble_eq_true rfl, Nat.le_of_ble_eq_true rfl⟩) (mm_preV F.2.2.2.2.2 hH (ci := 15) rfl ek) rfl rfl hl.1 rfl (lv_room (Nat.le_of_ble_eq_true rfl)) dX6_distanceOf_128 ⟨Nat.le_of_ble_eq_true rfl, Nat.le_of_ble_eq_true rfl⟩) hH (fun H locs hH => ?_)
    replace hf := evn_b1 hf
    obtain ⟨q10, e11, hf⟩ := hf
    subst e11
    replace hf := evn_b1 hf
    obtain ⟨u, e12, hf⟩ := hf
    refine mm_cast F hH mc_3 (hts _ q696) e12 dX6_distanceOf_131 ?_
    replace hf := evn_b1 hf
    obtain ⟨v11, e13, hf⟩ := hf
    refine mm_getIN F hH mc_3 (k := 3) (by decide) q265 (fun _ h => h) e13 dX6_distanceOf_134 ?_
    refine lv_if_eq (tgt := 160) hx hb dX6_distanceOf_137 (by decide) (fun c12 => ?_) (fun c12 => ?_)
    · rw [if_pos c12] at hf
      refine lv_null hx hb dX6_distanceOf_160 ?_
      replace hf := evn_b1 hf
      obtain ⟨u, e14, hf⟩ := hf
      obtain ⟨fs, ek⟩ := ck_i e14
      replace hf := evn_b1 hf
      obtain ⟨σ13, e15, hf⟩ := hf
      refine mm_cv (va_runV (As := [va_rf none]) (rest := []) ⟨hx, hb, hml, hown, hts⟩ (m_X6_add l G h0 none σ σ13 e15) (cwV 1 hts (lw_V q698 q700 qs17 q79 q701) rfl rfl rfl (by decide +kernel) ⟨Nat.le_of_ble_eq_true rfl, Nat.le_of_ble_eq_true rfl⟩) (mm_preV F.2.2.2.2.2 hH (ci := 6) rfl ek) rfl rfl hl.1 rfl (lv_room (Nat.le_of_ble_eq_true rfl)) dX6_distanceOf_161 ⟨Nat.le_of_ble_eq_true rfl, Nat.le_of_ble_eq_true rfl⟩) hH (fun H locs hH => ?_)
      refine lv_iinc (v := x2 + (1 : Int32)) (lv' := [(2, .int (x2 + (1 : Int32))), (0, .ref h0), (1, .ref a1)]) hx hb dX6_distanceOf_164 hl (k := 2) rfl rfl (by decide) rfl (fun ls hl => ?_)
      refine lv_goto (tgt := 99) hx hb dX6_distanceOf_167 (by decide) ?_
      rw [evn_l] at hf
      exact IH99 (x2 + (1 : Int32)) σ13 _ _ _ hH (lv_sub hl [1, 2, 0] rfl) hf
    · rw [if_neg c12] at hf
      refine lv_aload_n hx hb dX6_distanceOf_140 rfl (lv_at hl 0 rfl) ?_
      replace hf := evn_b1 hf
      obtain ⟨q14, e16, hf⟩ := hf
      refine mm_getA F hH mc_6 (k := 2) (by decide) (hts _ q682) (fun _ h => h) e16 dX6_distanceOf_141 ?_
      replace hf := evn_b1 hf
      obtain ⟨q15, e17, hf⟩ := hf
      refine mm_getAN F hH mc_0 (k := 0) (by decide) q186 (fun _ h => h) e17 dX6_distanceOf_144 ?_
      replace hf := evn_b1 hf
      obtain ⟨q16, e18, hf⟩ := hf
      refine mm_getAN F hH mc_1 (k := 2) (by decide) q137 (fun _ h => h) e18 dX6_distanceOf_147 ?_
      refine lv_iload_n hx hb dX6_distanceOf_150 rfl (lv_at hl 2 rfl) ?_
      replace hf := evn_b1 hf
      obtain ⟨u, e19, hf⟩ := hf
      obtain ⟨fs, ek⟩ := ck_i e19
      replace hf := evn_b1 hf
      obtain ⟨p17, e20, hf⟩ := hf
      refine mm_cq (va_runV (As := [.int x2]) (rest := [.ref h0]) ⟨hx, hb, hml, hown, hts⟩ (m_J2_get l G q16 x2 σ p17 e20) (cwV 1 hts (lw_V q695 q295 q296 q66 q297) rfl rfl rfl (by decide +kernel) ⟨Nat.le_of_ble_eq_true rfl, Nat.le_of_ble_eq_true rfl⟩) (mm_preV F.2.2.2.2.2 hH (ci := 15) rfl ek) rfl rfl hl.1 rfl (lv_room (Nat.le_of_ble_eq_true rfl)) dX6_distanceOf_151 ⟨Nat.le_of_ble_eq_true rfl, Nat.le_of_ble_eq_true rfl⟩) hH (fun H locs hH => ?_)
      replace hf := evn_b1 hf
      obtain ⟨q18, e21, hf⟩ := hf
      subst e21
      replace hf := evn_b1 hf
      obtain ⟨u, e22, hf⟩ := hf
      refine mm_cast F hH mc_3 (hts _ q696) e22 dX6_distanceOf_154 ?_
      refine lv_goto (tgt := 161) hx hb dX6_distanceOf_157 (by decide) ?_
      replace hf := evn_b1 hf
      obtain ⟨u, e23, hf⟩ := hf
      obtain ⟨fs, ek⟩ := ck_i e23
      replace hf := evn_b1 hf
      obtain ⟨σ19, e24, hf⟩ := hf
      refine mm_cv (va_runV (As := [va_rf (some q18)]) (rest := []) ⟨hx, hb, hml, hown, hts⟩ (m_X6_add l G h0 (some q18) σ σ19 e24) (cwV 1 hts (lw_V q698 q700 qs17 q79 q701) rfl rfl rfl (by decide +kernel) ⟨Nat.le_of_ble_eq_true rfl, Nat.le_of_ble_eq_true rfl⟩) (mm_preV F.2.2.2.2.2 hH (ci := 6) rfl ek) rfl rfl hl.1 rfl (lv_room (Nat.le_of_ble_eq_true rfl)) dX6_distanceOf_161 ⟨Nat.le_of_ble_eq_true rfl, Nat.le_of_ble_eq_true rfl⟩) hH (fun H locs hH => ?_)
      refine lv_iinc (v := x2 + (1 : Int32)) (lv' := [(2, .int (x2 + (1 : Int32))), (0, .ref h0), (1, .ref a1)]) hx hb dX6_distanceOf_164 hl (k := 2) rfl rfl (by decide) rfl (fun ls hl => ?_)
      refine lv_goto (tgt := 99) hx hb dX6_distanceOf_167 (by decide) ?_
      rw [evn_l] at hf
      exact IH99 (x2 + (1 : Int32)) σ19 _ _ _ hH (lv_sub hl [1, 2, 0] rfl) hf
set_option maxHeartbeats 4000000 in
theorem w_X6_distanceOf_174 {p : Program} {l : Launch} {e : Env} {s : State} {m : MethodId} {av : Array Value} {below : List Frame} {meth : Method} {c : Code} {G : mm_G} {σf : mm_M} {rr : Int32} {n : Nat} {h0 : Nat} {a1 : Nat} (F : mm_F p s m av c RX6 cX6_distanceOf 9 G) (hr : meth.sig.returnType = (Option.some .int)) (hlocks : meth.locks = false) (hname : meth.name = yX6_distanceOf.name) (IH2 : ∀ (x2 : Int32) (σ : mm_M) (H : Heap) (locs : List Loc) (ls : Array Slot), mm_H G s σ H locs → lv_has ls 9 [(0, .ref h0), (1, .ref a1), (2, .int x2)] → itn (s_X6_distanceOf h0 a1) n (.inl (x2, σ)) = some (rr, σf) → W p l e rm_X6_distanceOf s m av below meth c H locs 0 0 (MQ below (mm_Qi G rr σf) av s 0 0 (mm_A G)) (F0 m 2 ls [])) (IH63 : ∀ (a2 : Nat) (x3 : Int32) (x4 : Int32) (σ : mm_M) (H : Heap) (locs : List Loc) (ls : Array Slot), mm_H G s σ H locs → lv_has ls 9 [(0, .ref h0), (1, .ref a1), (2, .ref a2), (3, .int x3), (4, .int x4)] → itn (s_X6_distanceOf h0 a1) n (.inr (.inl (a2, x3, x4, σ))) = some (rr, σf) → W p l e rm_X6_distanceOf s m av below meth c H locs 0 0 (MQ below (mm_Qi G rr σf) av s 0 0 (mm_A G)) (F0 m 63 ls [])) (IH99 : ∀ (x2 : Int32) (σ : mm_M) (H : Heap) (locs : List Loc) (ls : Array Slot), mm_H G s σ H locs → lv_has ls 9 [(0, .ref h0), (1, .ref a1), (2, .int x2)] → itn (s_X6_distanceOf h0 a1) n (.inr (.inr (.inl (x2, σ)))) = some (rr, σf) → W p l e rm_X6_distanceOf s m av below meth c H locs 0 0 (MQ below (mm_Qi G rr σf) av s 0 0 (mm_A G)) (F0 m 99 ls [])) (IH174 : ∀ (x2 : Int32) (x3 : Int32) (σ : mm_M) (H : Heap) (locs : List Loc) (ls : Array Slot), mm_H G s σ H locs → lv_has ls 9 [(0, .ref h0), (1, .ref a1), (2, .int x2), (3, .int x3)] → itn (s_X6_distanceOf h0 a1) n (.inr (.inr (.inr (.inl (x2, x3, σ))))) = some (rr, σf) → W p l e rm_X6_distanceOf s m av below meth c H locs 0 0 (MQ below (mm_Qi G rr σf) av s 0 0 (mm_A G)) (F0 m 174 ls [])) (IH195 : ∀ (x2 : Int32) (x3 : Int32) (x4 : Int32) (σ : mm_M) (H : Heap) (locs : List Loc) (ls : Array Slot), mm_H G s σ H locs → lv_has ls 9 [(0, .ref h0), (1, .ref a1), (2, .int x2), (3, .int x3), (4, .int x4)] → itn (s_X6_distanceOf h0 a1) n (.inr (.inr (.inr (.inr (.inl (x2, x3, x4, σ)))))) = some (rr, σf) → W p l e rm_X6_distanceOf s m av below meth c H locs 0 0 (MQ below (mm_Qi G rr σf) av s 0 0 (mm_A G)) (F0 m 195 ls [])) (IH220 : ∀ (x2 : Int32) (x3 : Int32) (x4 : Int32) (a5 : Nat) (x6 : Int32) (x7 : Int32) (σ : mm_M) (H : Heap) (locs : List Loc) (ls : Array Slot), mm_H G s σ H locs → lv_has ls 9 [(0, .ref h0), (1, .ref a1), (2, .int x2), (3, .int x3), (4, .int x4), (5, .ref a5), (6, .int x6), (7, .int x7)] → itn (s_X6_distanceOf h0 a1) n (.inr (.inr (.inr (.inr (.inr (x2, x3, x4, a5, x6, x7, σ)))))) = some (rr, σf) → W p l e rm_X6_distanceOf s m av below meth c H locs 0 0 (MQ below (mm_Qi G rr σf) av s 0 0 (mm_A G)) (F0 m 220 ls []))  (x2 : Int32) (x3 : Int32)  (σ : mm_M) (hf : evn (s_X6_distanceOf h0 a1) n (g_X6_distanceOf_174 h0 a1 x2 x3 σ) = some (rr, σf)) {H : Heap} {locs : List Loc} {ls : Array Slot} (hH : mm_H G s σ H locs) (hl : lv_has ls 9 [(0, .ref h0), (1, .ref a1), (2, .int x2), (3, .int x3)]) : W p l e rm_X6_distanceOf s m av below meth c H locs 0 0 (MQ below (mm_Qi G rr σf) av s 0 0 (mm_A G)) (F0 m 174 ls []) := by
  have hx := F.1
  have hb := F.2.1
  have hml := F.2.2.1
  have hown := F.2.2.2.1
  have hts := F.2.2.2.2.1
  unfold g_X6_distanceOf_174 at hf
  refine lv_iload_n hx hb dX6_distanceOf_174 rfl (lv_at hl 2 rfl) ?_
  refine lv_aload_n hx hb dX6_distanceOf_175 rfl (lv_at hl 0 rfl) ?_
  replace hf := evn_b1 hf
  obtain ⟨v1, e1, hf⟩ := hf
  refine mm_getI F hH mc_6 (k := 1) (by decide) (hts _ q681) (fun _ h => h) e1 dX6_distanceOf_176 ?_
  refine lv_icmp_ge (tgt := 268) hx hb dX6_distanceOf_179 (by decide) (fun c2 => ?_) (fun c2 => ?_)
  · rw [if_pos c2] at hf
    refine lv_aload_n hx hb dX6_distanceOf_268 rfl (lv_at hl 1 rfl) ?_
    replace hf := evn_b1 hf
    obtain ⟨v3, e2, hf⟩ := hf
    refine mm_getIN F hH mc_3 (k := 5) (by decide) q273 (fun _ h => h) e2 dX6_distanceOf_269 ?_
    refine lv_if_eq (tgt := 279) hx hb dX6_distanceOf_272 (by decide) (fun c4 => ?_) (fun c4 => ?_)
    · rw [if_pos c4] at hf
      refine lv_iconst (v := (-1)) hx hb dX6_distanceOf_279 (by decide) ?_
      rw [evn_r] at hf
      obtain ⟨h1, h2⟩ := Prod.mk.inj (Option.some.inj hf)
      subst h1
      subst h2
      exact mm_reti F hH hr hlocks rfl rfl dX6_distanceOf_280
    · rw [if_neg c4] at hf
      refine lv_iload_n hx hb dX6_distanceOf_275 rfl (lv_at hl 3 rfl) ?_
      refine lv_goto (tgt := 280) hx hb dX6_distanceOf_276 (by decide) ?_
      rw [evn_r] at hf
      obtain ⟨h1, h2⟩ := Prod.mk.inj (Option.some.inj hf)
      subst h1
      subst h2
      exact mm_reti F hH hr hlocks rfl rfl dX6_distanceOf_280
  · rw [if_neg c2] at hf
    refine lv_aload_n hx hb dX6_distanceOf_182 rfl (lv_at hl 1 rfl) ?_
    replace hf := evn_b1 hf
    obtain ⟨v5, e3, hf⟩ := hf
    refine mm_getIN F hH mc_3 (k := 5) (by decide) q273 (fun _ h => h) e3 dX6_distanceOf_183 ?_
    refine lv_if_ne (tgt := 268) hx hb dX6_distanceOf_186 (by decide) (fun c6 => ?_) (fun c6 => ?_)
    · rw [if_neg c6] at hf
      refine lv_aload_n hx hb dX6_distanceOf_268 rfl (lv_at hl 1 rfl) ?_
      replace hf := evn_b1 hf
      obtain ⟨v7, e4, hf⟩ := hf
      refine mm_getIN F hH mc_3 (k := 5) (by decide) q273 (fun _ h => h) e4 dX6_distanceOf_269 ?_
      refine lv_if_eq (tgt := 279) hx hb dX6_distanceOf_272 (by decide) (fun c8 => ?_) (fun c8 => ?_)
      · rw [if_pos c8] at hf
        refine lv_iconst (v := (-1)) hx hb dX6_distanceOf_279 (by decide) ?_
        rw [evn_r] at hf
        obtain ⟨h1, h2⟩ := Prod.mk.inj (Option.some.inj hf)
        subst h1
        subst h2
        exact mm_reti F hH hr hlocks rfl rfl dX6_distanceOf_280
      · rw [if_neg c8] at hf
        refine lv_iload_n hx hb dX6_distanceOf_275 rfl (lv_at hl 3 rfl) ?_
        refine lv_goto (tgt := 280) hx hb dX6_distanceOf_276 (by decide) ?_
        rw [evn_r] at hf
        obtain ⟨h1, h2⟩ := Prod.mk.inj (Option.some.inj hf)
        subst h1
        subst h2
        exact mm_reti F hH hr hlocks rfl rfl dX6_distanceOf_280
    · rw [if_pos c6] at hf
      refine lv_aload_n hx hb dX6_distanceOf_189 rfl (lv_at hl 0 rfl) ?_
      replace hf := evn_b1 hf
      obtain ⟨v9, e5, hf⟩ := hf
      refine mm_getI F hH mc_6 (k := 1) (by decide) (hts _ q681) (fun _ h => h) e5 dX6_distanceOf_190 ?_
      refine lv_istore (lv' := [(4, .int v9), (0, .ref h0), (1, .ref a1), (2, .int x2), (3, .int x3)]) hx hb dX6_distanceOf_193 hl (by decide) rfl (fun ls hl => ?_)
      rw [evn_l] at hf
      exact IH195 x2 x3 v9 σ _ _ _ hH (lv_sub hl [1, 2, 3, 4, 0] rfl) hf
set_option maxHeartbeats 4000000 in
theorem w_X6_distanceOf_195 {p : Program} {l : Launch} {e : Env} {s : State} {m : MethodId} {av : Array Value} {below : List Frame} {meth : Method} {c : Code} {G : mm_G} {σf : mm_M} {rr : Int32} {n : Nat} {h0 : Nat} {a1 : Nat} (F : mm_F p s m av c RX6 cX6_distanceOf 9 G) (hr : meth.sig.returnType = (Option.some .int)) (hlocks : meth.locks = false) (hname : meth.name = yX6_distanceOf.name) (IH2 : ∀ (x2 : Int32) (σ : mm_M) (H : Heap) (locs : List Loc) (ls : Array Slot), mm_H G s σ H locs → lv_has ls 9 [(0, .ref h0), (1, .ref a1), (2, .int x2)] → itn (s_X6_distanceOf h0 a1) n (.inl (x2, σ)) = some (rr, σf) → W p l e rm_X6_distanceOf s m av below meth c H locs 0 0 (MQ below (mm_Qi G rr σf) av s 0 0 (mm_A G)) (F0 m 2 ls [])) (IH63 : ∀ (a2 : Nat) (x3 : Int32) (x4 : Int32) (σ : mm_M) (H : Heap) (locs : List Loc) (ls : Array Slot), mm_H G s σ H locs → lv_has ls 9 [(0, .ref h0), (1, .ref a1), (2, .ref a2), (3, .int x3), (4, .int x4)] → itn (s_X6_distanceOf h0 a1) n (.inr (.inl (a2, x3, x4, σ))) = some (rr, σf) → W p l e rm_X6_distanceOf s m av below meth c H locs 0 0 (MQ below (mm_Qi G rr σf) av s 0 0 (mm_A G)) (F0 m 63 ls [])) (IH99 : ∀ (x2 : Int32) (σ : mm_M) (H : Heap) (locs : List Loc) (ls : Array Slot), mm_H G s σ H locs → lv_has ls 9 [(0, .ref h0), (1, .ref a1), (2, .int x2)] → itn (s_X6_distanceOf h0 a1) n (.inr (.inr (.inl (x2, σ)))) = some (rr, σf) → W p l e rm_X6_distanceOf s m av below meth c H locs 0 0 (MQ below (mm_Qi G rr σf) av s 0 0 (mm_A G)) (F0 m 99 ls [])) (IH174 : ∀ (x2 : Int32) (x3 : Int32) (σ : mm_M) (H : Heap) (locs : List Loc) (ls : Array Slot), mm_H G s σ H locs → lv_has ls 9 [(0, .ref h0), (1, .ref a1), (2, .int x2), (3, .int x3)] → itn (s_X6_distanceOf h0 a1) n (.inr (.inr (.inr (.inl (x2, x3, σ))))) = some (rr, σf) → W p l e rm_X6_distanceOf s m av below meth c H locs 0 0 (MQ below (mm_Qi G rr σf) av s 0 0 (mm_A G)) (F0 m 174 ls [])) (IH195 : ∀ (x2 : Int32) (x3 : Int32) (x4 : Int32) (σ : mm_M) (H : Heap) (locs : List Loc) (ls : Array Slot), mm_H G s σ H locs → lv_has ls 9 [(0, .ref h0), (1, .ref a1), (2, .int x2), (3, .int x3), (4, .int x4)] → itn (s_X6_distanceOf h0 a1) n (.inr (.inr (.inr (.inr (.inl (x2, x3, x4, σ)))))) = some (rr, σf) → W p l e rm_X6_distanceOf s m av below meth c H locs 0 0 (MQ below (mm_Qi G rr σf) av s 0 0 (mm_A G)) (F0 m 195 ls [])) (IH220 : ∀ (x2 : Int32) (x3 : Int32) (x4 : Int32) (a5 : Nat) (x6 : Int32) (x7 : Int32) (σ : mm_M) (H : Heap) (locs : List Loc) (ls : Array Slot), mm_H G s σ H locs → lv_has ls 9 [(0, .ref h0), (1, .ref a1), (2, .int x2), (3, .int x3), (4, .int x4), (5, .ref a5), (6, .int x6), (7, .int x7)] → itn (s_X6_distanceOf h0 a1) n (.inr (.inr (.inr (.inr (.inr (x2, x3, x4, a5, x6, x7, σ)))))) = some (rr, σf) → W p l e rm_X6_distanceOf s m av below meth c H locs 0 0 (MQ below (mm_Qi G rr σf) av s 0 0 (mm_A G)) (F0 m 220 ls []))  (x2 : Int32) (x3 : Int32) (x4 : Int32)  (σ : mm_M) (hf : evn (s_X6_distanceOf h0 a1) n (g_X6_distanceOf_195 h0 a1 x2 x3 x4 σ) = some (rr, σf)) {H : Heap} {locs : List Loc} {ls : Array Slot} (hH : mm_H G s σ H locs) (hl : lv_has ls 9 [(0, .ref h0), (1, .ref a1), (2, .int x2), (3, .int x3), (4, .int x4)]) : W p l e rm_X6_distanceOf s m av below meth c H locs 0 0 (MQ below (mm_Qi G rr σf) av s 0 0 (mm_A G)) (F0 m 195 ls []) := by
  have hx := F.1
  have hb := F.2.1
  have hml := F.2.2.1
  have hown := F.2.2.2.1
  have hts := F.2.2.2.2.1
  unfold g_X6_distanceOf_195 at hf
  refine lv_iload_n hx hb dX6_distanceOf_195 rfl (lv_at hl 2 rfl) ?_
  refine lv_iload hx hb dX6_distanceOf_196 (lv_at hl 4 rfl) ?_
  refine lv_icmp_ge (tgt := 262) hx hb dX6_distanceOf_198 (by decide) (fun c1 => ?_) (fun c1 => ?_)
  · rw [if_pos c1] at hf
    refine lv_iinc (v := x3 + (1 : Int32)) (lv' := [(3, .int (x3 + (1 : Int32))), (0, .ref h0), (1, .ref a1), (2, .int x2), (4, .int x4)]) hx hb dX6_distanceOf_262 hl (k := 3) rfl rfl (by decide) rfl (fun ls hl => ?_)
    refine lv_goto (tgt := 174) hx hb dX6_distanceOf_265 (by decide) ?_
    rw [evn_l] at hf
    exact IH174 x2 (x3 + (1 : Int32)) σ _ _ _ hH (lv_sub hl [1, 2, 3, 0] rfl) hf
  · rw [if_neg c1] at hf
    refine lv_aload_n hx hb dX6_distanceOf_201 rfl (lv_at hl 0 rfl) ?_
    replace hf := evn_b1 hf
    obtain ⟨q2, e1, hf⟩ := hf
    refine mm_getA F hH mc_6 (k := 0) (by decide) (hts _ q680) (fun _ h => h) e1 dX6_distanceOf_202 ?_
    refine lv_iload_n hx hb dX6_distanceOf_205 rfl (lv_at hl 2 rfl) ?_
    replace hf := evn_b1 hf
    obtain ⟨p3, e2, hf⟩ := hf
    refine mm_aald F hH (k := 3) (by decide) e2 dX6_distanceOf_206 ?_
    replace hf := evn_b1 hf
    obtain ⟨q4, e3, hf⟩ := hf
    subst e3
    replace hf := evn_b1 hf
    obtain ⟨q5, e4, hf⟩ := hf
    refine mm_getAN F hH mc_3 (k := 1) (by decide) q257 (fun _ h => h) e4 dX6_distanceOf_207 ?_
    refine lv_astore (lv' := [(5, .ref q5), (0, .ref h0), (1, .ref a1), (2, .int x2), (3, .int x3), (4, .int x4)]) hx hb dX6_distanceOf_210 hl (by decide) rfl (fun ls hl => ?_)
    refine lv_aload hx hb dX6_distanceOf_212 (lv_at hl 0 rfl) ?_
    replace hf := evn_b1 hf
    obtain ⟨v6, e5, hf⟩ := hf
    refine mm_alen F hH e5 dX6_distanceOf_214 ?_
    refine lv_istore (lv' := [(6, .int v6), (5, .ref q5), (0, .ref h0), (1, .ref a1), (2, .int x2), (3, .int x3), (4, .int x4)]) hx hb dX6_distanceOf_215 hl (by decide) rfl (fun ls hl => ?_)
    refine lv_iconst (v := 0) hx hb dX6_distanceOf_217 (by decide) ?_
    refine lv_istore (lv' := [(7, .int (0 : Int32)), (6, .int v6), (5, .ref q5), (0, .ref h0), (1, .ref a1), (2, .int x2), (3, .int x3), (4, .int x4)]) hx hb dX6_distanceOf_218 hl (by decide) rfl (fun ls hl => ?_)
    rw [evn_l] at hf
    exact IH220 x2 x3 x4 q5 v6 (0 : Int32) σ _ _ _ hH (lv_sub hl [3, 4, 5, 6, 7, 2, 1, 0] rfl) hf
set_option maxHeartbeats 4000000 in
theorem w_X6_distanceOf_220 {p : Program} {l : Launch} {e : Env} {s : State} {m : MethodId} {av : Array Value} {below : List Frame} {meth : Method} {c : Code} {G : mm_G} {σf : mm_M} {rr : Int32} {n : Nat} {h0 : Nat} {a1 : Nat} (F : mm_F p s m av c RX6 cX6_distanceOf 9 G) (hr : meth.sig.returnType = (Option.some .int)) (hlocks : meth.locks = false) (hname : meth.name = yX6_distanceOf.name) (IH2 : ∀ (x2 : Int32) (σ : mm_M) (H : Heap) (locs : List Loc) (ls : Array Slot), mm_H G s σ H locs → lv_has ls 9 [(0, .ref h0), (1, .ref a1), (2, .int x2)] → itn (s_X6_distanceOf h0 a1) n (.inl (x2, σ)) = some (rr, σf) → W p l e rm_X6_distanceOf s m av below meth c H locs 0 0 (MQ below (mm_Qi G rr σf) av s 0 0 (mm_A G)) (F0 m 2 ls [])) (IH63 : ∀ (a2 : Nat) (x3 : Int32) (x4 : Int32) (σ : mm_M) (H : Heap) (locs : List Loc) (ls : Array Slot), mm_H G s σ H locs → lv_has ls 9 [(0, .ref h0), (1, .ref a1), (2, .ref a2), (3, .int x3), (4, .int x4)] → itn (s_X6_distanceOf h0 a1) n (.inr (.inl (a2, x3, x4, σ))) = some (rr, σf) → W p l e rm_X6_distanceOf s m av below meth c H locs 0 0 (MQ below (mm_Qi G rr σf) av s 0 0 (mm_A G)) (F0 m 63 ls [])) (IH99 : ∀ (x2 : Int32) (σ : mm_M) (H : Heap) (locs : List Loc) (ls : Array Slot), mm_H G s σ H locs → lv_has ls 9 [(0, .ref h0), (1, .ref a1), (2, .int x2)] → itn (s_X6_distanceOf h0 a1) n (.inr (.inr (.inl (x2, σ)))) = some (rr, σf) → W p l e rm_X6_distanceOf s m av below meth c H locs 0 0 (MQ below (mm_Qi G rr σf) av s 0 0 (mm_A G)) (F0 m 99 ls [])) (IH174 : ∀ (x2 : Int32) (x3 : Int32) (σ : mm_M) (H : Heap) (locs : List Loc) (ls : Array Slot), mm_H G s σ H locs → lv_has ls 9 [(0, .ref h0), (1, .ref a1), (2, .int x2), (3, .int x3)] → itn (s_X6_distanceOf h0 a1) n (.inr (.inr (.inr (.inl (x2, x3, σ))))) = some (rr, σf) → W p l e rm_X6_distanceOf s m av below meth c H locs 0 0 (MQ below (mm_Qi G rr σf) av s 0 0 (mm_A G)) (F0 m 174 ls [])) (IH195 : ∀ (x2 : Int32) (x3 : Int32) (x4 : Int32) (σ : mm_M) (H : Heap) (locs : List Loc) (ls : Array Slot), mm_H G s σ H locs → lv_has ls 9 [(0, .ref h0), (1, .ref a1), (2, .int x2), (3, .int x3), (4, .int x4)] → itn (s_X6_distanceOf h0 a1) n (.inr (.inr (.inr (.inr (.inl (x2, x3, x4, σ)))))) = some (rr, σf) → W p l e rm_X6_distanceOf s m av below meth c H locs 0 0 (MQ below (mm_Qi G rr σf) av s 0 0 (mm_A G)) (F0 m 195 ls [])) (IH220 : ∀ (x2 : Int32) (x3 : Int32) (x4 : Int32) (a5 : Nat) (x6 : Int32) (x7 : Int32) (σ : mm_M) (H : Heap) (locs : List Loc) (ls : Array Slot), mm_H G s σ H locs → lv_has ls 9 [(0, .ref h0), (1, .ref a1), (2, .int x2), (3, .int x3), (4, .int x4), (5, .ref a5), (6, .int x6), (7, .int x7)] → itn (s_X6_distanceOf h0 a1) n (.inr (.inr (.inr (.inr (.inr (x2, x3, x4, a5, x6, x7, σ)))))) = some (rr, σf) → W p l e rm_X6_distanceOf s m av below meth c H locs 0 0 (MQ below (mm_Qi G rr σf) av s 0 0 (mm_A G)) (F0 m 220 ls []))  (x2 : Int32) (x3 : Int32) (x4 : Int32) (a5 : Nat) (x6 : Int32) (x7 : Int32)  (σ : mm_M) (hf : evn (s_X6_distanceOf h0 a1) n (g_X6_distanceOf_220 h0 a1 x2 x3 x4 a5 x6 x7 σ) = some (rr, σf)) {H : Heap} {locs : List Loc} {ls : Array Slot} (hH : mm_H G s σ H locs) (hl : lv_has ls 9 [(0, .ref h0), (1, .ref a1), (2, .int x2), (3, .int x3), (4, .int x4), (5, .ref a5), (6, .int x6), (7, .int x7)]) : W p l e rm_X6_distanceOf s m av below meth c H locs 0 0 (MQ below (mm_Qi G rr σf) av s 0 0 (mm_A G)) (F0 m 220 ls []) := by
  have hx := F.1
  have hb := F.2.1
  have hml := F.2.2.1
  have hown := F.2.2.2.1
  have hts := F.2.2.2.2.1
  unfold g_X6_distanceOf_220 at hf
  refine lv_iload hx hb dX6_distanceOf_220 (lv_at hl 7 rfl) ?_
  refine lv_iload hx hb dX6_distanceOf_222 (lv_at hl 6 rfl) ?_
  refine lv_icmp_ge (tgt := 256) hx hb dX6_distanceOf_224 (by decide) (fun c1 => ?_) (fun c1 => ?_)
  · rw [if_pos c1] at hf
    refine lv_iinc (v := x2 + (1 : Int32)) (lv' := [(2, .int (x2 + (1 : Int32))), (0, .ref h0), (1, .ref a1), (3, .int x3), (4, .int x4), (5, .ref a5), (6, .int x6), (7, .int x7)]) hx hb dX6_distanceOf_256 hl (k := 2) rfl rfl (by decide) rfl (fun ls hl => ?_)
    refine lv_goto (tgt := 195) hx hb dX6_distanceOf_259 (by decide) ?_
    rw [evn_l] at hf
    exact IH195 (x2 + (1 : Int32)) x3 x4 σ _ _ _ hH (lv_sub hl [1, 2, 0, 3, 4] rfl) hf
  · rw [if_neg c1] at hf
    refine lv_aload hx hb dX6_distanceOf_227 (lv_at hl 5 rfl) ?_
    refine lv_iload hx hb dX6_distanceOf_229 (lv_at hl 7 rfl) ?_
    replace hf := evn_b1 hf
    obtain ⟨v2, e1, hf⟩ := hf
    refine mm_iald F hH e1 dX6_distanceOf_231 ?_
    refine lv_istore (lv' := [(8, .int v2), (0, .ref h0), (1, .ref a1), (2, .int x2), (3, .int x3), (4, .int x4), (5, .ref a5), (6, .int x6), (7, .int x7)]) hx hb dX6_distanceOf_232 hl (by decide) rfl (fun ls hl => ?_)
    refine lv_aload_n hx hb dX6_distanceOf_234 rfl (lv_at hl 1 rfl) ?_
    refine lv_aload_n hx hb dX6_distanceOf_235 rfl (lv_at hl 1 rfl) ?_
    replace hf := evn_b1 hf
    obtain ⟨q3, e2, hf⟩ := hf
    refine mm_getA F hH mc_6 (k := 2) (by decide) (hts _ q682) (fun _ h => h) e2 dX6_distanceOf_236 ?_
    replace hf := evn_b1 hf
    obtain ⟨q4, e3, hf⟩ := hf
    refine mm_getAN F hH mc_0 (k := 0) (by decide) q186 (fun _ h => h) e3 dX6_distanceOf_239 ?_
    refine lv_iload hx hb dX6_distanceOf_242 (lv_at hl 0 rfl) ?_
    replace hf := evn_b1 hf
    obtain ⟨u, e4, hf⟩ := hf
    obtain ⟨fs, ek⟩ := ck_i e4
    replace hf := evn_b1 hf
    obtain ⟨p5, e5, hf⟩ := hf
    refine mm_cq (va_runV (As := [.int v2]) (rest := [.ref h0]) ⟨hx, hb, hml, hown, hts⟩ (m_X1_target l G q4 v2 σ p5 e5) (cwV 1 hts (lw_V q697 q492 q493 q63 q494) rfl rfl rfl (by decide +kernel) ⟨Nat.le_of_ble_eq_true rfl, Nat.le_of_ble_eq_true rfl⟩) (mm_preV F.2.2.2.2.2 hH (ci := 1) rfl ek) rfl rfl hl.1 rfl (lv_room (Nat.le_of_ble_eq_true rfl)) dX6_distanceOf_244 ⟨Nat.le_of_ble_eq_true rfl, Nat.le_of_ble_eq_true rfl⟩) hH (fun H locs hH => ?_)
    replace hf := evn_b1 hf
    obtain ⟨u, e6, hf⟩ := hf
    obtain ⟨fs, ek⟩ := ck_i e6
    replace hf := evn_b1 hf
    obtain ⟨σ6, e7, hf⟩ := hf
    refine mm_cv (va_runV (As := [va_rf p5]) (rest := []) ⟨hx, hb, hml, hown, hts⟩ (m_X6_add l G h0 p5 σ σ6 e7) (cwV 1 hts (lw_V q698 q700 qs17 q79 q701) rfl rfl rfl (by decide +kernel) ⟨Nat.le_of_ble_eq_true rfl, Nat.le_of_ble_eq_true rfl⟩) (mm_preV F.2.2.2.2.2 hH (ci := 6) rfl ek) rfl rfl hl.1 rfl (lv_room (Nat.le_of_ble_eq_true rfl)) dX6_distanceOf_247 ⟨Nat.le_of_ble_eq_true rfl, Nat.le_of_ble_eq_true rfl⟩) hH (fun H locs hH => ?_)
    refine lv_iinc (v := x7 + (1 : Int32)) (lv' := [(7, .int (x7 + (1 : Int32))), (8, .int v2), (0, .ref h0), (1, .ref a1), (2, .int x2), (3, .int x3), (4, .int x4), (5, .ref a5), (6, .int x6)]) hx hb dX6_distanceOf_250 hl (k := 8) rfl rfl (by decide) rfl (fun ls hl => ?_)
    refine lv_goto (tgt := 220) hx hb dX6_distanceOf_253 (by decide) ?_
    rw [evn_l] at hf
    exact IH220 x2 x3 x4 a5 x6 (x7 + (1 : Int32)) σ6 _ _ _ hH (lv_sub hl [2, 3, 4, 5, 6, 7, 8, 0] rfl) hf
set_option maxHeartbeats 4000000 in
theorem w_X6_distanceOf_0 {p : Program} {l : Launch} {e : Env} {s : State} {m : MethodId} {av : Array Value} {below : List Frame} {meth : Method} {c : Code} {G : mm_G} {σf : mm_M} {rr : Int32} {n : Nat} {h0 : Nat} {a1 : Nat} (F : mm_F p s m av c RX6 cX6_distanceOf 9 G) (hr : meth.sig.returnType = (Option.some .int)) (hlocks : meth.locks = false) (hname : meth.name = yX6_distanceOf.name) (IH2 : ∀ (x2 : Int32) (σ : mm_M) (H : Heap) (locs : List Loc) (ls : Array Slot), mm_H G s σ H locs → lv_has ls 9 [(0, .ref h0), (1, .ref a1), (2, .int x2)] → itn (s_X6_distanceOf h0 a1) n (.inl (x2, σ)) = some (rr, σf) → W p l e rm_X6_distanceOf s m av below meth c H locs 0 0 (MQ below (mm_Qi G rr σf) av s 0 0 (mm_A G)) (F0 m 2 ls [])) (IH63 : ∀ (a2 : Nat) (x3 : Int32) (x4 : Int32) (σ : mm_M) (H : Heap) (locs : List Loc) (ls : Array Slot), mm_H G s σ H locs → lv_has ls 9 [(0, .ref h0), (1, .ref a1), (2, .ref a2), (3, .int x3), (4, .int x4)] → itn (s_X6_distanceOf h0 a1) n (.inr (.inl (a2, x3, x4, σ))) = some (rr, σf) → W p l e rm_X6_distanceOf s m av below meth c H locs 0 0 (MQ below (mm_Qi G rr σf) av s 0 0 (mm_A G)) (F0 m 63 ls [])) (IH99 : ∀ (x2 : Int32) (σ : mm_M) (H : Heap) (locs : List Loc) (ls : Array Slot), mm_H G s σ H locs → lv_has ls 9 [(0, .ref h0), (1, .ref a1), (2, .int x2)] → itn (s_X6_distanceOf h0 a1) n (.inr (.inr (.inl (x2, σ)))) = some (rr, σf) → W p l e rm_X6_distanceOf s m av below meth c H locs 0 0 (MQ below (mm_Qi G rr σf) av s 0 0 (mm_A G)) (F0 m 99 ls [])) (IH174 : ∀ (x2 : Int32) (x3 : Int32) (σ : mm_M) (H : Heap) (locs : List Loc) (ls : Array Slot), mm_H G s σ H locs → lv_has ls 9 [(0, .ref h0), (1, .ref a1), (2, .int x2), (3, .int x3)] → itn (s_X6_distanceOf h0 a1) n (.inr (.inr (.inr (.inl (x2, x3, σ))))) = some (rr, σf) → W p l e rm_X6_distanceOf s m av below meth c H locs 0 0 (MQ below (mm_Qi G rr σf) av s 0 0 (mm_A G)) (F0 m 174 ls [])) (IH195 : ∀ (x2 : Int32) (x3 : Int32) (x4 : Int32) (σ : mm_M) (H : Heap) (locs : List Loc) (ls : Array Slot), mm_H G s σ H locs → lv_has ls 9 [(0, .ref h0), (1, .ref a1), (2, .int x2), (3, .int x3), (4, .int x4)] → itn (s_X6_distanceOf h0 a1) n (.inr (.inr (.inr (.inr (.inl (x2, x3, x4, σ)))))) = some (rr, σf) → W p l e rm_X6_distanceOf s m av below meth c H locs 0 0 (MQ below (mm_Qi G rr σf) av s 0 0 (mm_A G)) (F0 m 195 ls [])) (IH220 : ∀ (x2 : Int32) (x3 : Int32) (x4 : Int32) (a5 : Nat) (x6 : Int32) (x7 : Int32) (σ : mm_M) (H : Heap) (locs : List Loc) (ls : Array Slot), mm_H G s σ H locs → lv_has ls 9 [(0, .ref h0), (1, .ref a1), (2, .int x2), (3, .int x3), (4, .int x4), (5, .ref a5), (6, .int x6), (7, .int x7)] → itn (s_X6_distanceOf h0 a1) n (.inr (.inr (.inr (.inr (.inr (x2, x3, x4, a5, x6, x7, σ)))))) = some (rr, σf) → W p l e rm_X6_distanceOf s m av below meth c H locs 0 0 (MQ below (mm_Qi G rr σf) av s 0 0 (mm_A G)) (F0 m 220 ls []))    (σ : mm_M) (hf : evn (s_X6_distanceOf h0 a1) n (g_X6_distanceOf_0 h0 a1 σ) = some (rr, σf)) {H : Heap} {locs : List Loc} {ls : Array Slot} (hH : mm_H G s σ H locs) (hl : lv_has ls 9 [(0, .ref h0), (1, .ref a1)]) : W p l e rm_X6_distanceOf s m av below meth c H locs 0 0 (MQ below (mm_Qi G rr σf) av s 0 0 (mm_A G)) (F0 m 0 ls []) := by
  have hx := F.1
  have hb := F.2.1
  have hml := F.2.2.1
  have hown := F.2.2.2.1
  have hts := F.2.2.2.2.1
  unfold g_X6_distanceOf_0 at hf
  refine lv_iconst (v := 0) hx hb dX6_distanceOf_0 (by decide) ?_
  refine lv_istore_n (lv' := [(2, .int (0 : Int32)), (0, .ref h0), (1, .ref a1)]) hx hb dX6_distanceOf_1 rfl hl (by decide) rfl (fun ls hl => ?_)
  rw [evn_l] at hf
  exact IH2 (0 : Int32) σ _ _ _ hH (lv_sub hl [1, 2, 0] rfl) hf
set_option maxHeartbeats 4000000 in
theorem l_X6_distanceOf {p : Program} {l : Launch} {e : Env} {s : State} {m : MethodId} {av : Array Value} {below : List Frame} {meth : Method} {c : Code} {G : mm_G} {σf : mm_M} {rr : Int32} {h0 : Nat} {a1 : Nat} (F : mm_F p s m av c RX6 cX6_distanceOf 9 G) (hr : meth.sig.returnType = (Option.some .int)) (hlocks : meth.locks = false) (hname : meth.name = yX6_distanceOf.name) : ∀ n : Nat, (∀ (x2 : Int32) (σ : mm_M) (H : Heap) (locs : List Loc) (ls : Array Slot), mm_H G s σ H locs → lv_has ls 9 [(0, .ref h0), (1, .ref a1), (2, .int x2)] → itn (s_X6_distanceOf h0 a1) n (.inl (x2, σ)) = some (rr, σf) → W p l e rm_X6_distanceOf s m av below meth c H locs 0 0 (MQ below (mm_Qi G rr σf) av s 0 0 (mm_A G)) (F0 m 2 ls [])) ∧ (∀ (a2 : Nat) (x3 : Int32) (x4 : Int32) (σ : mm_M) (H : Heap) (locs : List Loc) (ls : Array Slot), mm_H G s σ H locs → lv_has ls 9 [(0, .ref h0), (1, .ref a1), (2, .ref a2), (3, .int x3), (4, .int x4)] → itn (s_X6_distanceOf h0 a1) n (.inr (.inl (a2, x3, x4, σ))) = some (rr, σf) → W p l e rm_X6_distanceOf s m av below meth c H locs 0 0 (MQ below (mm_Qi G rr σf) av s 0 0 (mm_A G)) (F0 m 63 ls [])) ∧ (∀ (x2 : Int32) (σ : mm_M) (H : Heap) (locs : List Loc) (ls : Array Slot), mm_H G s σ H locs → lv_has ls 9 [(0, .ref h0), (1, .ref a1), (2, .int x2)] → itn (s_X6_distanceOf h0 a1) n (.inr (.inr (.inl (x2, σ)))) = some (rr, σf) → W p l e rm_X6_distanceOf s m av below meth c H locs 0 0 (MQ below (mm_Qi G rr σf) av s 0 0 (mm_A G)) (F0 m 99 ls [])) ∧ (∀ (x2 : Int32) (x3 : Int32) (σ : mm_M) (H : Heap) (locs : List Loc) (ls : Array Slot), mm_H G s σ H locs → lv_has ls 9 [(0, .ref h0), (1, .ref a1), (2, .int x2), (3, .int x3)] → itn (s_X6_distanceOf h0 a1) n (.inr (.inr (.inr (.inl (x2, x3, σ))))) = some (rr, σf) → W p l e rm_X6_distanceOf s m av below meth c H locs 0 0 (MQ below (mm_Qi G rr σf) av s 0 0 (mm_A G)) (F0 m 174 ls [])) ∧ (∀ (x2 : Int32) (x3 : Int32) (x4 : Int32) (σ : mm_M) (H : Heap) (locs : List Loc) (ls : Array Slot), mm_H G s σ H locs → lv_has ls 9 [(0, .ref h0), (1, .ref a1), (2, .int x2), (3, .int x3), (4, .int x4)] → itn (s_X6_distanceOf h0 a1) n (.inr (.inr (.inr (.inr (.inl (x2, x3, x4, σ)))))) = some (rr, σf) → W p l e rm_X6_distanceOf s m av below meth c H locs 0 0 (MQ below (mm_Qi G rr σf) av s 0 0 (mm_A G)) (F0 m 195 ls [])) ∧ (∀ (x2 : Int32) (x3 : Int32) (x4 : Int32) (a5 : Nat) (x6 : Int32) (x7 : Int32) (σ : mm_M) (H : Heap) (locs : List Loc) (ls : Array Slot), mm_H G s σ H locs → lv_has ls 9 [(0, .ref h0), (1, .ref a1), (2, .int x2), (3, .int x3), (4, .int x4), (5, .ref a5), (6, .int x6), (7, .int x7)] → itn (s_X6_distanceOf h0 a1) n (.inr (.inr (.inr (.inr (.inr (x2, x3, x4, a5, x6, x7, σ)))))) = some (rr, σf) → W p l e rm_X6_distanceOf s m av below meth c H locs 0 0 (MQ below (mm_Qi G rr σf) av s 0 0 (mm_A G)) (F0 m 220 ls [])) := by
  intro n
  induction n with
  | zero =>
    exact ⟨fun x2 σ H locs ls hH hl hf => (by cases hf), fun a2 x3 x4 σ H locs ls hH hl hf => (by cases hf), fun x2 σ H locs ls hH hl hf => (by cases hf), fun x2 x3 σ H locs ls hH hl hf => (by cases hf), fun x2 x3 x4 σ H locs ls hH hl hf => (by cases hf), fun x2 x3 x4 a5 x6 x7 σ H locs ls hH hl hf => (by cases hf)⟩
  | succ n ih =>
    obtain ⟨IH2, IH63, IH99, IH174, IH195, IH220⟩ := ih
    refine ⟨?_, ?_, ?_, ?_, ?_, ?_⟩
    · intro x2 σ H locs ls hH hl hf
      rw [itn_s] at hf
      exact w_X6_distanceOf_2 F hr hlocks hname IH2 IH63 IH99 IH174 IH195 IH220 x2 σ hf hH hl
    · intro a2 x3 x4 σ H locs ls hH hl hf
      rw [itn_s] at hf
      exact w_X6_distanceOf_63 F hr hlocks hname IH2 IH63 IH99 IH174 IH195 IH220 a2 x3 x4 σ hf hH hl
    · intro x2 σ H locs ls hH hl hf
      rw [itn_s] at hf
      exact w_X6_distanceOf_99 F hr hlocks hname IH2 IH63 IH99 IH174 IH195 IH220 x2 σ hf hH hl
    · intro x2 x3 σ H locs ls hH hl hf
      rw [itn_s] at hf
      exact w_X6_distanceOf_174 F hr hlocks hname IH2 IH63 IH99 IH174 IH195 IH220 x2 x3 σ hf hH hl
    · intro x2 x3 x4 σ H locs ls hH hl hf
      rw [itn_s] at hf
      exact w_X6_distanceOf_195 F hr hlocks hname IH2 IH63 IH99 IH174 IH195 IH220 x2 x3 x4 σ hf hH hl
    · intro x2 x3 x4 a5 x6 x7 σ H locs ls hH hl hf
      rw [itn_s] at hf
      exact w_X6_distanceOf_220 F hr hlocks hname IH2 IH63 IH99 IH174 IH195 IH220 x2 x3 x4 a5 x6 x7 σ hf hH hl
set_option maxHeartbeats 4000000 in
theorem m_X6_distanceOf (l : Launch) (G : mm_G) (h0 : Nat) (a1 : Nat) (σ : mm_M) (σf : mm_M) (rr : Int32) (hf : f_X6_distanceOf h0 a1 σ = some (rr, σf)) : Met l yX6_distanceOf (ws_ yX6_distanceOf cX6_distanceOf 9 ((Option.some .int))) rm_X6_distanceOf (mm_Pc G [.ref h0, .ref a1] σ) (mm_Qi G rr σf) 0 0 (mm_A G) := by
  refine mm_met (by decide) rfl rfl (by  exact Nat.le_of_ble_eq_true rfl) (fun p e s m below meth c ls F hH hr hlocks hname hl => ?_)
  have hl : lv_has ls 9 [(0, .ref h0), (1, .ref a1)] := by  exact hl
  have F : mm_F p s m _ c RX6 cX6_distanceOf 9 G := F
  unfold f_X6_distanceOf at hf
  obtain ⟨n, hf⟩ := lgo_i hf
  have IH := l_X6_distanceOf (l := l) (e := e) (below := below) (rr := rr) (σf := σf) (h0 := h0) (a1 := a1) F hr hlocks hname n
  exact w_X6_distanceOf_0 F hr hlocks hname IH.1 IH.2.1 IH.2.2.1 IH.2.2.2.1 IH.2.2.2.2.1 IH.2.2.2.2.2 σ hf hH (lv_sub hl [0, 1] rfl)
