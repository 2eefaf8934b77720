/-! WALKS -/
set_option maxRecDepth 100000
/-! IslandHeapModel.many(Z)I -/
abbrev rm_X2_many : Room := { frames := 0, cells := 0, slots := 0, locals := 0 }
set_option maxHeartbeats 4000000 in
theorem w_X2_many_4 {p : Program} {l : Launch} {e : Env} {s : State} {m : MethodId} {av : Array Value} {below : List Frame} {meth : Method} {c : Code} {G : mm_G} {rr : Int32} {n : Nat} {σ : mm_M} {h0 : Nat} {x1 : Int32} (F : mm_F p s m av c RX2 cX2_many 4 G) (hr : meth.sig.returnType = (Option.some .int)) (hlocks : meth.locks = false) (hname : meth.name = yX2_many.name) (IH4 : ∀ (x2 : Int32) (x3 : Int32) (H : Heap) (locs : List Loc) (ls : Array Slot), mm_H G s σ H locs → lv_has ls 4 [(0, .ref h0), (1, .int x1), (2, .int x2), (3, .int x3)] → itn (s_X2_many h0 x1 σ) n (x2, x3) = some rr → W p l e rm_X2_many s m av below meth c H locs 0 0 (MQ below (mm_Qi G rr σ) av s 0 0 (mm_A G)) (F0 m 4 ls []))  (x2 : Int32) (x3 : Int32)  (hf : evn (s_X2_many h0 x1 σ) n (g_X2_many_4 h0 x1 x2 x3 σ) = some rr) {H : Heap} {locs : List Loc} {ls : Array Slot} (hH : mm_H G s σ H locs) (hl : lv_has ls 4 [(0, .ref h0), (1, .int x1), (2, .int x2), (3, .int x3)]) : W p l e rm_X2_many s m av below meth c H locs 0 0 (MQ below (mm_Qi G rr σ) av s 0 0 (mm_A G)) (F0 m 4 ls []) := by
  have hx := F.1
  have hb := F.2.1
  have hml := F.2.2.1
  have hown := F.2.2.2.1
  have hts := F.2.2.2.2.1
  unfold g_X2_many_4 at hf
  refine lv_iload_n hx hb dX2_many_4 rfl (lv_at hl 3 rfl) ?_
  refine lv_aload_n hx hb dX2_many_5 rfl (lv_at hl 0 rfl) ?_
  replace hf := evn_b1 hf
  obtain ⟨q1, e1, hf⟩ := hf
  refine mm_getA F hH mc_2 (k := 0) (by decide) (hts _ q1047) (fun _ h => h) e1 dX2_many_6 ?_
  refine lv_sipush (v := 1216) hx hb dX2_many_9 (by decide) ?_
  replace hf := evn_b1 hf
  obtain ⟨v2, e2, hf⟩ := hf
  refine mm_iald F hH e2 dX2_many_12 ?_
  refine lv_icmp_ge (tgt := 59) hx hb dX2_many_13 (by decide) (fun c3 => ?_) (fun c3 => ?_)
  · rw [if_pos c3] at hf
    refine lv_iload_n hx hb dX2_many_59 rfl (lv_at hl 2 rfl) ?_
    rw [evn_r] at hf
    have h1 := Option.some.inj hf
    subst h1
    exact mm_reti F hH hr hlocks rfl rfl dX2_many_60
  · rw [if_neg c3] at hf
    refine lv_iload_n hx hb dX2_many_16 rfl (lv_at hl 2 rfl) ?_
    refine lv_aload_n hx hb dX2_many_17 rfl (lv_at hl 0 rfl) ?_
    replace hf := evn_b1 hf
    obtain ⟨q4, e3, hf⟩ := hf
    refine mm_getA F hH mc_2 (k := 0) (by decide) (hts _ q1047) (fun _ h => h) e3 dX2_many_18 ?_
    refine lv_iconst (v := 0) hx hb dX2_many_21 (by decide) ?_
    refine lv_iload_n hx hb dX2_many_22 rfl (lv_at hl 3 rfl) ?_
    refine lv_iadd hx hb dX2_many_23 ?_
    replace hf := evn_b1 hf
    obtain ⟨v5, e4, hf⟩ := hf
    refine mm_iald F hH e4 dX2_many_24 ?_
    refine lv_if_le (tgt := 50) hx hb dX2_many_25 (by decide) (fun c6 => ?_) (fun c6 => ?_)
    · rw [if_pos c6] at hf
      refine lv_iconst (v := 0) hx hb dX2_many_50 (by decide) ?_
      refine lv_iadd hx hb dX2_many_51 ?_
      refine lv_istore_n (lv' := [(2, .int (x2 + (0 : Int32))), (0, .ref h0), (1, .int x1), (3, .int x3)]) hx hb dX2_many_52 rfl hl (by decide) rfl (fun ls hl => ?_)
      refine lv_iinc (v := x3 + (1 : Int32)) (lv' := [(3, .int (x3 + (1 : Int32))), (2, .int (x2 + (0 : Int32))), (0, .ref h0), (1, .int x1)]) hx hb dX2_many_53 hl (k := 3) rfl rfl (by decide) rfl (fun ls hl => ?_)
      refine lv_goto (tgt := 4) hx hb dX2_many_56 (by decide) ?_
      rw [evn_l] at hf
      exact IH4 (x2 + (0 : Int32)) (x3 + (1 : Int32)) _ _ _ hH (lv_sub hl [2, 3, 1, 0] rfl) hf
    · rw [if_neg c6] at hf
      refine lv_iload_n hx hb dX2_many_28 rfl (lv_at hl 1 rfl) ?_
      refine lv_if_eq (tgt := 46) hx hb dX2_many_29 (by decide) (fun c7 => ?_) (fun c7 => ?_)
      · rw [if_pos c7] at hf
        refine lv_iconst (v := 1) hx hb dX2_many_46 (by decide) ?_
        refine lv_goto (tgt := 51) hx hb dX2_many_47 (by decide) ?_
        refine lv_iadd hx hb dX2_many_51 ?_
        refine lv_istore_n (lv' := [(2, .int (x2 + (1 : Int32))), (0, .ref h0), (1, .int x1), (3, .int x3)]) hx hb dX2_many_52 rfl hl (by decide) rfl (fun ls hl => ?_)
        refine lv_iinc (v := x3 + (1 : Int32)) (lv' := [(3, .int (x3 + (1 : Int32))), (2, .int (x2 + (1 : Int32))), (0, .ref h0), (1, .int x1)]) hx hb dX2_many_53 hl (k := 3) rfl rfl (by decide) rfl (fun ls hl => ?_)
        refine lv_goto (tgt := 4) hx hb dX2_many_56 (by decide) ?_
        rw [evn_l] at hf
        exact IH4 (x2 + (1 : Int32)) (x3 + (1 : Int32)) _ _ _ hH (lv_sub hl [2, 3, 1, 0] rfl) hf
      · rw [if_neg c7] at hf
        refine lv_aload_n hx hb dX2_many_32 rfl (lv_at hl 0 rfl) ?_
        replace hf := evn_b1 hf
        obtain ⟨q8, e5, hf⟩ := hf
        refine mm_getA F hH mc_2 (k := 0) (by decide) (hts _ q1047) (fun _ h => h) e5 dX2_many_33 ?_
        refine lv_sipush (v := 400) hx hb dX2_many_36 (by decide) ?_
        refine lv_iload_n hx hb dX2_many_39 rfl (lv_at hl 3 rfl) ?_
        refine lv_iadd hx hb dX2_many_40 ?_
        replace hf := evn_b1 hf
        obtain ⟨v9, e6, hf⟩ := hf
        refine mm_iald F hH e6 dX2_many_41 ?_
        refine lv_iconst (v := 1) hx hb dX2_many_42 (by decide) ?_
        refine lv_icmp_ne (tgt := 50) hx hb dX2_many_43 (by decide) (fun c10 => ?_) (fun c10 => ?_)
        · rw [if_neg c10] at hf
          refine lv_iconst (v := 0) hx hb dX2_many_50 (by decide) ?_
          refine lv_iadd hx hb dX2_many_51 ?_
          refine lv_istore_n (lv' := [(2, .int (x2 + (0 : Int32))), (0, .ref h0), (1, .int x1), (3, .int x3)]) hx hb dX2_many_52 rfl hl (by decide) rfl (fun ls hl => ?_)
          refine lv_iinc (v := x3 + (1 : Int32)) (lv' := [(3, .int (x3 + (1 : Int32))), (2, .int (x2 + (0 : Int32))), (0, .ref h0), (1, .int x1)]) hx hb dX2_many_53 hl (k := 3) rfl rfl (by decide) rfl (fun ls hl => ?_)
          refine lv_goto (tgt := 4) hx hb dX2_many_56 (by decide) ?_
          rw [evn_l] at hf
          exact IH4 (x2 + (0 : Int32)) (x3 + (1 : Int32)) _ _ _ hH (lv_sub hl [2, 3, 1, 0] rfl) hf
        · rw [if_pos c10] at hf
          refine lv_iconst (v := 1) hx hb dX2_many_46 (by decide) ?_
          refine lv_goto (tgt := 51) hx hb dX2_many_47 (by decide) ?_
          refine lv_iadd hx hb dX2_many_51 ?_
          refine lv_istore_n (lv' := [(2, .int (x2 + (1 : Int32))), (0, .ref h0), (1, .int x1), (3, .int x3)]) hx hb dX2_many_52 rfl hl (by decide) rfl (fun ls hl => ?_)
          refine lv_iinc (v := x3 + (1 : Int32)) (lv' := [(3, .int (x3 + (1 : Int32))), (2, .int (x2 + (1 : Int32))), (0, .ref h0), (1, .int x1)]) hx hb dX2_many_53 hl (k := 3) rfl rfl (by decide) rfl (fun ls hl => ?_)
          refine lv_goto (tgt := 4) hx hb dX2_many_56 (by decide) ?_
          rw [evn_l] at hf
          exact IH4 (x2 + (1 : Int32)) (x3 + (1 : Int32)) _ _ _ hH (lv_sub hl [2, 3, 1, 0] rfl) hf
set_option maxHeartbeats 4000000 in
theorem w_X2_many_0 {p : Program} {l : Launch} {e : Env} {s : State} {m : MethodId} {av : Array Value} {below : List Frame} {meth : Method} {c : Code} {G : mm_G} {rr : Int32} {n : Nat} {σ : mm_M} {h0 : Nat} {x1 : Int32} (F : mm_F p s m av c RX2 cX2_many 4 G) (hr : meth.sig.returnType = (Option.some .int)) (hlocks : meth.locks = false) (hname : meth.name = yX2_many.name) (IH4 : ∀ (x2 : Int32) (x3 : Int32) (H : Heap) (locs : List Loc) (ls : Array Slot), mm_H G s σ H locs → lv_has ls 4 [(0, .ref h0), (1, .int x1), (2, .int x2), (3, .int x3)] → itn (s_X2_many h0 x1 σ) n (x2, x3) = some rr → W p l e rm_X2_many s m av below meth c H locs 0 0 (MQ below (mm_Qi G rr σ) av s 0 0 (mm_A G)) (F0 m 4 ls []))    (hf : evn (s_X2_many h0 x1 σ) n (g_X2_many_0 h0 x1 σ) = some rr) {H : Heap} {locs : List Loc} {ls : Array Slot} (hH : mm_H G s σ H locs) (hl : lv_has ls 4 [(0, .ref h0), (1, .int x1)]) : W p l e rm_X2_many s m av below meth c H locs 0 0 (MQ below (mm_Qi G rr σ) av s 0 0 (mm_A G)) (F0 m 0 ls []) := by
  have hx := F.1
  have hb := F.2.1
  have hml := F.2.2.1
  have hown := F.2.2.2.1
  have hts := F.2.2.2.2.1
  unfold g_X2_many_0 at hf
  refine lv_iconst (v := 0) hx hb dX2_many_0 (by decide) ?_
  refine lv_istore_n (lv' := [(2, .int (0 : Int32)), (0, .ref h0), (1, .int x1)]) hx hb dX2_many_1 rfl hl (by decide) rfl (fun ls hl => ?_)
  refine lv_iconst (v := 0) hx hb dX2_many_2 (by decide) ?_
  refine lv_istore_n (lv' := [(3, .int (0 : Int32)), (2, .int (0 : Int32)), (0, .ref h0), (1, .int x1)]) hx hb dX2_many_3 rfl hl (by decide) rfl (fun ls hl => ?_)
  rw [evn_l] at hf
  exact IH4 (0 : Int32) (0 : Int32) _ _ _ hH (lv_sub hl [2, 3, 1, 0] rfl) hf
set_option maxHeartbeats 4000000 in
theorem l_X2_many {p : Program} {l : Launch} {e : Env} {s : State} {m : MethodId} {av : Array Value} {below : List Frame} {meth : Method} {c : Code} {G : mm_G} {rr : Int32} {σ : mm_M} {h0 : Nat} {x1 : Int32} (F : mm_F p s m av c RX2 cX2_many 4 G) (hr : meth.sig.returnType = (Option.some .int)) (hlocks : meth.locks = false) (hname : meth.name = yX2_many.name) : ∀ n : Nat, (∀ (x2 : Int32) (x3 : Int32) (H : Heap) (locs : List Loc) (ls : Array Slot), mm_H G s σ H locs → lv_has ls 4 [(0, .ref h0), (1, .int x1), (2, .int x2), (3, .int x3)] → itn (s_X2_many h0 x1 σ) n (x2, x3) = some rr → W p l e rm_X2_many s m av below meth c H locs 0 0 (MQ below (mm_Qi G rr σ) av s 0 0 (mm_A G)) (F0 m 4 ls [])) := by
  intro n
  induction n with
  | zero =>
    exact fun x2 x3 H locs ls hH hl hf => by cases hf
  | succ n ih =>
    have IH4 := ih
    intro x2 x3 H locs ls hH hl hf
    rw [itn_s] at hf
    exact w_X2_many_4 F hr hlocks hname IH4 x2 x3 hf hH hl
set_option maxHeartbeats 4000000 in
theorem m_X2_many (l : Launch) (G : mm_G) (h0 : Nat) (x1 : Int32) (σ : mm_M) (rr : Int32) (hf : f_X2_many h0 x1 σ = some rr) : Met l yX2_many (ws_ yX2_many cX2_many 4 ((Option.some .int))) rm_X2_many (mm_Pc G [.ref h0, .int x1] σ) (mm_Qi G rr σ) 0 0 (mm_A G) := by
  refine mm_met (by decide) rfl rfl (by  exact Nat.le_of_ble_eq_true rfl) (fun p e s m below meth c ls F hH hr hlocks hname hl => ?_)
  have hl : lv_has ls 4 [(0, .ref h0), (1, .int x1)] := by  exact hl
  have F : mm_F p s m _ c RX2 cX2_many 4 G := F
  unfold f_X2_many at hf
  obtain ⟨n, hf⟩ := lgo_i hf
  have IH := l_X2_many (l := l) (e := e) (below := below) (rr := rr) (σ := σ) (h0 := h0) (x1 := x1) F hr hlocks hname n
  exact w_X2_many_0 F hr hlocks hname IH  hf hH (lv_sub hl [0, 1] rfl)
/-! IslandHeapModel.pin(IZ)I -/
abbrev rm_X2_pin : Room := { frames := 2, cells := 0, slots := 0, locals := 44 }
set_option maxHeartbeats 4000000 in
theorem w_X2_pin_33 {p : Program} {l : Launch} {e : Env} {s : State} {m : MethodId} {av : Array Value} {below : List Frame} {meth : Method} {c : Code} {G : mm_G} {σf : mm_M} {rr : Int32}  {h0 : Nat} {x1 : Int32} {x2 : Int32} (F : mm_F p s m av c RX2 cX2_pin 4 G) (hr : meth.sig.returnType = (Option.some .int)) (hlocks : meth.locks = false) (hname : meth.name = yX2_pin.name)   (x3 : Int32) (t0 : Int32) (t1 : Int32) (σ : mm_M) (hf : g_X2_pin_33 h0 x1 x2 x3 t0 t1 σ = some (rr, σf)) {H : Heap} {locs : List Loc} {ls : Array Slot} (hH : mm_H G s σ H locs) (hl : lv_has ls 4 [(0, .ref h0), (1, .int x1), (2, .int x2), (3, .int x3)]) : W p l e rm_X2_pin s m av below meth c H locs 0 0 (MQ below (mm_Qi G rr σf) av s 0 0 (mm_A G)) (F0 m 33 ls [.int t1, .int t0]) := by
  have hx := F.1
  have hb := F.2.1
  have hml := F.2.2.1
  have hown := F.2.2.2.1
  have hts := F.2.2.2.2.1
  unfold g_X2_pin_33 at hf
  refine lv_icmp_ne (tgt := 39) hx hb dX2_pin_33 (by decide) (fun c1 => ?_) (fun c1 => ?_)
  · rw [if_neg c1] at hf
    refine lv_aload_n hx hb dX2_pin_39 rfl (lv_at hl 0 rfl) ?_
    replace hf := b1_i hf
    obtain ⟨q2, e1, hf⟩ := hf
    refine mm_getA F hH mc_2 (k := 0) (by decide) (hts _ q1047) (fun _ h => h) e1 dX2_pin_40 ?_
    refine lv_sipush (v := 400) hx hb dX2_pin_43 (by decide) ?_
    refine lv_iload_n hx hb dX2_pin_46 rfl (lv_at hl 3 rfl) ?_
    refine lv_iadd hx hb dX2_pin_47 ?_
    refine lv_iload_n hx hb dX2_pin_48 rfl (lv_at hl 2 rfl) ?_
    refine lv_if_eq (tgt := 56) hx hb dX2_pin_49 (by decide) (fun c3 => ?_) (fun c3 => ?_)
    · rw [if_pos c3] at hf
      refine lv_iconst (v := 0) hx hb dX2_pin_56 (by decide) ?_
      replace hf := b1_i hf
      obtain ⟨σ4, e2, hf⟩ := hf
      refine mm_iast F hH e2 dX2_pin_57 (fun H locs hH => ?_)
      refine lv_aload_n hx hb dX2_pin_58 rfl (lv_at hl 0 rfl) ?_
      refine lv_iconst (v := 1) hx hb dX2_pin_59 (by decide) ?_
      replace hf := b1_i hf
      obtain ⟨u, e3, hf⟩ := hf
      obtain ⟨fs, ek⟩ := ck_i e3
      replace hf := b1_i hf
      obtain ⟨v5, e4, hf⟩ := hf
      refine mm_ci (va_runV (As := [.int (1 : Int32)]) (rest := []) ⟨hx, hb, hml, hown, hts⟩ (m_X2_many l G h0 (1 : Int32) σ4 v5 e4) (cwV 1 hts (lw_V q1179 q1181 qs41 q67 q1182) rfl rfl rfl (by decide +kernel) ⟨Nat.le_of_ble_eq_true rfl, Nat.le_of_ble_eq_true rfl⟩) (mm_preV F.2.2.2.2.2 hH (ci := 2) rfl ek) rfl rfl hl.1 rfl (lv_room (Nat.le_of_ble_eq_true rfl)) dX2_pin_60 ⟨Nat.le_of_ble_eq_true rfl, Nat.le_of_ble_eq_true rfl⟩) hH (fun H locs hH => ?_)
      obtain ⟨h1, h2⟩ := Prod.mk.inj (Option.some.inj hf)
      subst h1
      subst h2
      exact mm_reti F hH hr hlocks rfl rfl dX2_pin_63
    · rw [if_neg c3] at hf
      refine lv_iconst (v := 1) hx hb dX2_pin_52 (by decide) ?_
      refine lv_goto (tgt := 57) hx hb dX2_pin_53 (by decide) ?_
      replace hf := b1_i hf
      obtain ⟨σ6, e5, hf⟩ := hf
      refine mm_iast F hH e5 dX2_pin_57 (fun H locs hH => ?_)
      refine lv_aload_n hx hb dX2_pin_58 rfl (lv_at hl 0 rfl) ?_
      refine lv_iconst (v := 1) hx hb dX2_pin_59 (by decide) ?_
      replace hf := b1_i hf
      obtain ⟨u, e6, hf⟩ := hf
      obtain ⟨fs, ek⟩ := ck_i e6
      replace hf := b1_i hf
      obtain ⟨v7, e7, hf⟩ := hf
      refine mm_ci (va_runV (As := [.int (1 : Int32)]) (rest := []) ⟨hx, hb, hml, hown, hts⟩ (m_X2_many l G h0 (1 : Int32) σ6 v7 e7) (cwV 1 hts (lw_V q1179 q1181 qs41 q67 q1182) rfl rfl rfl (by decide +kernel) ⟨Nat.le_of_ble_eq_true rfl, Nat.le_of_ble_eq_true rfl⟩) (mm_preV F.2.2.2.2.2 hH (ci := 2) rfl ek) rfl rfl hl.1 rfl (lv_room (Nat.le_of_ble_eq_true rfl)) dX2_pin_60 ⟨Nat.le_of_ble_eq_true rfl, Nat.le_of_ble_eq_true rfl⟩) hH (fun H locs hH => ?_)
      obtain ⟨h1, h2⟩ := Prod.mk.inj (Option.some.inj hf)
      subst h1
      subst h2
      exact mm_reti F hH hr hlocks rfl rfl dX2_pin_63
  · rw [if_pos c1] at hf
    refine lv_ldc (v := (-1000003)) hx hb hown (hts _ q1178) dX2_pin_36 ?_
    obtain ⟨h1, h2⟩ := Prod.mk.inj (Option.some.inj hf)
    subst h1
    subst h2
    exact mm_reti F hH hr hlocks rfl rfl dX2_pin_38
set_option maxHeartbeats 4000000 in
theorem m_X2_pin (l : Launch) (G : mm_G) (h0 : Nat) (x1 : Int32) (x2 : Int32) (σ : mm_M) (σf : mm_M) (rr : Int32) (hf : f_X2_pin h0 x1 x2 σ = some (rr, σf)) : Met l yX2_pin (ws_ yX2_pin cX2_pin 4 ((Option.some .int))) rm_X2_pin (mm_Pc G [.ref h0, .int x1, .int x2] σ) (mm_Qi G rr σf) 0 0 (mm_A G) := by
  refine mm_met (by decide) rfl rfl (by  exact Nat.le_of_ble_eq_true rfl) (fun p e s m below meth c ls F hH hr hlocks hname hl => ?_)
  have hl : lv_has ls 4 [(0, .ref h0), (1, .int x1), (2, .int x2)] := by  exact hl
  have F : mm_F p s m _ c RX2 cX2_pin 4 G := F
  have hx := F.1
  have hb := F.2.1
  have hml := F.2.2.1
  have hown := F.2.2.2.1
  have hts := F.2.2.2.2.1
  unfold f_X2_pin at hf
  refine lv_aload_n hx hb dX2_pin_0 rfl (lv_at hl 0 rfl) ?_
  refine lv_iload_n hx hb dX2_pin_1 rfl (lv_at hl 1 rfl) ?_
  replace hf := b1_i hf
  obtain ⟨u, e1, hf⟩ := hf
  obtain ⟨fs, ek⟩ := ck_i e1
  replace hf := b1_i hf
  obtain ⟨v1, e2, hf⟩ := hf
  refine mm_ci (va_runV (As := [.int x1]) (rest := []) ⟨hx, hb, hml, hown, hts⟩ (m_X2_objectOf l G h0 x1 σ v1 e2) (cwV 1 hts (lw_V q1124 q1126 qs34 q67 q1127) rfl rfl rfl (by decide +kernel) ⟨Nat.le_of_ble_eq_true rfl, Nat.le_of_ble_eq_true rfl⟩) (mm_preV F.2.2.2.2.2 hH (ci := 2) rfl ek) rfl rfl hl.1 rfl (lv_room (Nat.le_of_ble_eq_true rfl)) dX2_pin_2 ⟨Nat.le_of_ble_eq_true rfl, Nat.le_of_ble_eq_true rfl⟩) hH (fun H locs hH => ?_)
  refine lv_istore_n (lv' := [(3, .int v1), (0, .ref h0), (1, .int x1), (2, .int x2)]) hx hb dX2_pin_5 rfl hl (by decide) rfl (fun ls hl => ?_)
  refine lv_iload_n hx hb dX2_pin_6 rfl (lv_at hl 0 rfl) ?_
  refine lv_iconst (v := (-1)) hx hb dX2_pin_7 (by decide) ?_
  refine lv_icmp_ne (tgt := 14) hx hb dX2_pin_8 (by decide) (fun c2 => ?_) (fun c2 => ?_)
  · rw [if_neg c2] at hf
    refine lv_aload_n hx hb dX2_pin_14 rfl (lv_at hl 1 rfl) ?_
    replace hf := b1_i hf
    obtain ⟨q3, e3, hf⟩ := hf
    refine mm_getA F hH mc_2 (k := 0) (by decide) (hts _ q1047) (fun _ h => h) e3 dX2_pin_15 ?_
    refine lv_sipush (v := 400) hx hb dX2_pin_18 (by decide) ?_
    refine lv_iload_n hx hb dX2_pin_21 rfl (lv_at hl 0 rfl) ?_
    refine lv_iadd hx hb dX2_pin_22 ?_
    replace hf := b1_i hf
    obtain ⟨v4, e4, hf⟩ := hf
    refine mm_iald F hH e4 dX2_pin_23 ?_
    refine lv_iload_n hx hb dX2_pin_24 rfl (lv_at hl 3 rfl) ?_
    refine lv_if_eq (tgt := 32) hx hb dX2_pin_25 (by decide) (fun c5 => ?_) (fun c5 => ?_)
    · rw [if_pos c5] at hf
      refine lv_iconst (v := 0) hx hb dX2_pin_32 (by decide) ?_
      exact w_X2_pin_33 F hr hlocks hname  v1 v4 (0 : Int32) σ hf hH (lv_sub hl [1, 2, 3, 0] rfl)
    · rw [if_neg c5] at hf
      refine lv_iconst (v := 1) hx hb dX2_pin_28 (by decide) ?_
      refine lv_goto (tgt := 33) hx hb dX2_pin_29 (by decide) ?_
      exact w_X2_pin_33 F hr hlocks hname  v1 v4 (1 : Int32) σ hf hH (lv_sub hl [1, 2, 3, 0] rfl)
  · rw [if_pos c2] at hf
    refine lv_ldc (v := (-1000002)) hx hb hown (hts _ q1110) dX2_pin_11 ?_
    obtain ⟨h1, h2⟩ := Prod.mk.inj (Option.some.inj hf)
    subst h1
    subst h2
    exact mm_reti F hH hr hlocks rfl rfl dX2_pin_13
/-! IslandHeapModel.setsSlot(II)I -/
abbrev rm_X2_setsSlot : Room := { frames := 0, cells := 0, slots := 0, locals := 0 }
set_option maxHeartbeats 4000000 in
theorem m_X2_setsSlot (l : Launch) (G : mm_G) (h0 : Nat) (x1 : Int32) (x2 : Int32) (σ : mm_M) (σf : mm_M) (rr : Int32) (hf : f_X2_setsSlot h0 x1 x2 σ = some (rr, σf)) : Met l yX2_setsSlot (ws_ yX2_setsSlot cX2_setsSlot 4 ((Option.some .int))) rm_X2_setsSlot (mm_Pc G [.ref h0, .int x1, .int x2] σ) (mm_Qi G rr σf) 0 0 (mm_A G) := by
  refine mm_met (by decide) rfl rfl (by  exact Nat.le_of_ble_eq_true rfl) (fun p e s m below meth c ls F hH hr hlocks hname hl => ?_)
  have hl : lv_has ls 4 [(0, .ref h0), (1, .int x1), (2, .int x2)] := by  exact hl
  have F : mm_F p s m _ c RX2 cX2_setsSlot 4 G := F
  have hx := F.1
  have hb := F.2.1
  have hml := F.2.2.1
  have hown := F.2.2.2.1
  have hts := F.2.2.2.2.1
  unfold f_X2_setsSlot at hf
  refine lv_aload_n hx hb dX2_setsSlot_0 rfl (lv_at hl 0 rfl) ?_
  replace hf := b1_i hf
  obtain ⟨q1, e1, hf⟩ := hf
  refine mm_getA F hH mc_2 (k := 0) (by decide) (hts _ q1047) (fun _ h => h) e1 dX2_setsSlot_1 ?_
  refine lv_iload_n hx hb dX2_setsSlot_4 rfl (lv_at hl 1 rfl) ?_
  replace hf := b1_i hf
  obtain ⟨v2, e2, hf⟩ := hf
  refine mm_iald F hH e2 dX2_setsSlot_5 ?_
  refine lv_istore_n (lv' := [(3, .int v2), (0, .ref h0), (1, .int x1), (2, .int x2)]) hx hb dX2_setsSlot_6 rfl hl (by decide) rfl (fun ls hl => ?_)
  refine lv_aload_n hx hb dX2_setsSlot_7 rfl (lv_at hl 1 rfl) ?_
  replace hf := b1_i hf
  obtain ⟨q3, e3, hf⟩ := hf
  refine mm_getA F hH mc_2 (k := 0) (by decide) (hts _ q1047) (fun _ h => h) e3 dX2_setsSlot_8 ?_
  refine lv_iload_n hx hb dX2_setsSlot_11 rfl (lv_at hl 2 rfl) ?_
  refine lv_iload_n hx hb dX2_setsSlot_12 rfl (lv_at hl 3 rfl) ?_
  replace hf := b1_i hf
  obtain ⟨σ4, e4, hf⟩ := hf
  refine mm_iast F hH e4 dX2_setsSlot_13 (fun H locs hH => ?_)
  refine lv_iload_n hx hb dX2_setsSlot_14 rfl (lv_at hl 0 rfl) ?_
  obtain ⟨h1, h2⟩ := Prod.mk.inj (Option.some.inj hf)
  subst h1
  subst h2
  exact mm_reti F hH hr hlocks rfl rfl dX2_setsSlot_15
/-! IslandHeapModel.setRoot(II)I -/
abbrev rm_X2_setRoot : Room := { frames := 3, cells := 0, slots := 0, locals := 65 }
set_option maxHeartbeats 4000000 in
theorem m_X2_setRoot (l : Launch) (G : mm_G) (h0 : Nat) (x1 : Int32) (x2 : Int32) (σ : mm_M) (σf : mm_M) (rr : Int32) (hf : f_X2_setRoot h0 x1 x2 σ = some (rr, σf)) : Met l yX2_setRoot (ws_ yX2_setRoot cX2_setRoot 3 ((Option.some .int))) rm_X2_setRoot (mm_Pc G [.ref h0, .int x1, .int x2] σ) (mm_Qi G rr σf) 0 0 (mm_A G) := by
  refine mm_met (by decide) rfl rfl (by  exact Nat.le_of_ble_eq_true rfl) (fun p e s m below meth c ls F hH hr hlocks hname hl => ?_)
  have hl : lv_has ls 3 [(0, .ref h0), (1, .int x1), (2, .int x2)] := by  exact hl
  have F : mm_F p s m _ c RX2 cX2_setRoot 3 G := F
  have hx := F.1
  have hb := F.2.1
  have hml := F.2.2.1
  have hown := F.2.2.2.1
  have hts := F.2.2.2.2.1
  unfold f_X2_setRoot at hf
  refine lv_iload_n hx hb dX2_setRoot_0 rfl (lv_at hl 1 rfl) ?_
  refine lv_iconst (v := 0) hx hb dX2_setRoot_1 (by decide) ?_
  refine lv_iconst (v := 5) hx hb dX2_setRoot_2 (by decide) ?_
  replace hf := b1_i hf
  obtain ⟨v1, e1, hf⟩ := hf
  refine mm_ci (va_runS (As := [.int x1, .int (0 : Int32), .int (5 : Int32)]) (rest := []) ⟨hx, hb, hml, hown, hts⟩ (m_X2_in l G x1 (0 : Int32) (5 : Int32) σ v1 e1) (va_cwS 3 hts (lw_S q1107 q1108 q67 q1109) rfl rfl rfl (by decide +kernel) ⟨Nat.le_of_ble_eq_true rfl, Nat.le_of_ble_eq_true rfl⟩) (mm_preS F.2.2.2.2.2 hH) rfl rfl hl.1 rfl (lv_room (Nat.le_of_ble_eq_true rfl)) dX2_setRoot_3 ⟨Nat.le_of_ble_eq_true rfl, Nat.le_of_ble_eq_true rfl⟩) hH (fun H locs hH => ?_)
  refine lv_if_eq (tgt := 30) hx hb dX2_setRoot_6 (by decide) (fun c2 => ?_) (fun c2 => ?_)
  · rw [if_pos c2] at hf
    refine lv_ldc (v := (-1000002)) hx hb hown (hts _ q1110) dX2_setRoot_30 ?_
    obtain ⟨h1, h2⟩ := Prod.mk.inj (Option.some.inj hf)
    subst h1
    subst h2
    exact mm_reti F hH hr hlocks rfl rfl dX2_setRoot_32
  · rw [if_neg c2] at hf
    refine lv_aload_n hx hb dX2_setRoot_9 rfl (lv_at hl 0 rfl) ?_
    refine lv_iload_n hx hb dX2_setRoot_10 rfl (lv_at hl 2 rfl) ?_
    replace hf := b1_i hf
    obtain ⟨u, e2, hf⟩ := hf
    obtain ⟨fs, ek⟩ := ck_i e2
    replace hf := b1_i hf
    obtain ⟨v3, e3, hf⟩ := hf
    refine mm_ci (va_runV (As := [.int x2]) (rest := []) ⟨hx, hb, hml, hown, hts⟩ (m_X2_isReference l G h0 x2 σ v3 e3) (cwV 1 hts (lw_V q1156 q1158 qs40 q67 q1159) rfl rfl rfl (by decide +kernel) ⟨Nat.le_of_ble_eq_true rfl, Nat.le_of_ble_eq_true rfl⟩) (mm_preV F.2.2.2.2.2 hH (ci := 2) rfl ek) rfl rfl hl.1 rfl (lv_room (Nat.le_of_ble_eq_true rfl)) dX2_setRoot_11 ⟨Nat.le_of_ble_eq_true rfl, Nat.le_of_ble_eq_true rfl⟩) hH (fun H locs hH => ?_)
    refine lv_if_eq (tgt := 30) hx hb dX2_setRoot_14 (by decide) (fun c4 => ?_) (fun c4 => ?_)
    · rw [if_pos c4] at hf
      refine lv_ldc (v := (-1000002)) hx hb hown (hts _ q1110) dX2_setRoot_30 ?_
      obtain ⟨h1, h2⟩ := Prod.mk.inj (Option.some.inj hf)
      subst h1
      subst h2
      exact mm_reti F hH hr hlocks rfl rfl dX2_setRoot_32
    · rw [if_neg c4] at hf
      refine lv_aload_n hx hb dX2_setRoot_17 rfl (lv_at hl 0 rfl) ?_
      refine lv_sipush (v := 1200) hx hb dX2_setRoot_18 (by decide) ?_
      refine lv_iload_n hx hb dX2_setRoot_21 rfl (lv_at hl 1 rfl) ?_
      refine lv_iadd hx hb dX2_setRoot_22 ?_
      refine lv_iload_n hx hb dX2_setRoot_23 rfl (lv_at hl 2 rfl) ?_
      replace hf := b1_i hf
      obtain ⟨u, e4, hf⟩ := hf
      obtain ⟨fs, ek⟩ := ck_i e4
      replace hf := b2_i hf
      obtain ⟨v5, σ6, e5, hf⟩ := hf
      refine mm_ci (va_runV (As := [.int ((1200 : Int32) + x1), .int x2]) (rest := []) ⟨hx, hb, hml, hown, hts⟩ (m_X2_setsSlot l G h0 ((1200 : Int32) + x1) x2 σ σ6 v5 e5) (cwV 2 hts (lw_V q1187 q1189 qs42 q67 q1190) rfl rfl rfl (by decide +kernel) ⟨Nat.le_of_ble_eq_true rfl, Nat.le_of_ble_eq_true rfl⟩) (mm_preV F.2.2.2.2.2 hH (ci := 2) rfl ek) rfl rfl hl.1 rfl (lv_room (Nat.le_of_ble_eq_true rfl)) dX2_setRoot_24 ⟨Nat.le_of_ble_eq_true rfl, Nat.le_of_ble_eq_true rfl⟩) hH (fun H locs hH => ?_)
      refine lv_goto (tgt := 32) hx hb dX2_setRoot_27 (by decide) ?_
      obtain ⟨h1, h2⟩ := Prod.mk.inj (Option.some.inj hf)
      subst h1
      subst h2
      exact mm_reti F hH hr hlocks rfl rfl dX2_setRoot_32
/-! IslandHeapModel.root(I)I -/
abbrev rm_X2_root : Room := { frames := 1, cells := 0, slots := 0, locals := 22 }
set_option maxHeartbeats 4000000 in
theorem m_X2_root (l : Launch) (G : mm_G) (h0 : Nat) (x1 : Int32) (σ : mm_M) (rr : Int32) (hf : f_X2_root h0 x1 σ = some rr) : Met l yX2_root (ws_ yX2_root cX2_root 2 ((Option.some .int))) rm_X2_root (mm_Pc G [.ref h0, .int x1] σ) (mm_Qi G rr σ) 0 0 (mm_A G) := by
  refine mm_met (by decide) rfl rfl (by  exact Nat.le_of_ble_eq_true rfl) (fun p e s m below meth c ls F hH hr hlocks hname hl => ?_)
  have hl : lv_has ls 2 [(0, .ref h0), (1, .int x1)] := by  exact hl
  have F : mm_F p s m _ c RX2 cX2_root 2 G := F
  have hx := F.1
  have hb := F.2.1
  have hml := F.2.2.1
  have hown := F.2.2.2.1
  have hts := F.2.2.2.2.1
  unfold f_X2_root at hf
  refine lv_iload_n hx hb dX2_root_0 rfl (lv_at hl 1 rfl) ?_
  refine lv_iconst (v := 0) hx hb dX2_root_1 (by decide) ?_
  refine lv_iconst (v := 5) hx hb dX2_root_2 (by decide) ?_
  replace hf := b1_i hf
  obtain ⟨v1, e1, hf⟩ := hf
  refine mm_ci (va_runS (As := [.int x1, .int (0 : Int32), .int (5 : Int32)]) (rest := []) ⟨hx, hb, hml, hown, hts⟩ (m_X2_in l G x1 (0 : Int32) (5 : Int32) σ v1 e1) (va_cwS 3 hts (lw_S q1107 q1108 q67 q1109) rfl rfl rfl (by decide +kernel) ⟨Nat.le_of_ble_eq_true rfl, Nat.le_of_ble_eq_true rfl⟩) (mm_preS F.2.2.2.2.2 hH) rfl rfl hl.1 rfl (lv_room (Nat.le_of_ble_eq_true rfl)) dX2_root_3 ⟨Nat.le_of_ble_eq_true rfl, Nat.le_of_ble_eq_true rfl⟩) hH (fun H locs hH => ?_)
  refine lv_if_eq (tgt := 22) hx hb dX2_root_6 (by decide) (fun c2 => ?_) (fun c2 => ?_)
  · rw [if_pos c2] at hf
    refine lv_ldc (v := (-1000002)) hx hb hown (hts _ q1110) dX2_root_22 ?_
    have h1 := Option.some.inj hf
    subst h1
    exact mm_reti F hH hr hlocks rfl rfl dX2_root_24
  · rw [if_neg c2] at hf
    refine lv_aload_n hx hb dX2_root_9 rfl (lv_at hl 0 rfl) ?_
    replace hf := b1_i hf
    obtain ⟨q3, e2, hf⟩ := hf
    refine mm_getA F hH mc_2 (k := 0) (by decide) (hts _ q1047) (fun _ h => h) e2 dX2_root_10 ?_
    refine lv_sipush (v := 1200) hx hb dX2_root_13 (by decide) ?_
    refine lv_iload_n hx hb dX2_root_16 rfl (lv_at hl 1 rfl) ?_
    refine lv_iadd hx hb dX2_root_17 ?_
    replace hf := b1_i hf
    obtain ⟨v4, e3, hf⟩ := hf
    refine mm_iald F hH e3 dX2_root_18 ?_
    refine lv_goto (tgt := 24) hx hb dX2_root_19 (by decide) ?_
    have h1 := Option.some.inj hf
    subst h1
    exact mm_reti F hH hr hlocks rfl rfl dX2_root_24
/-! IslandHeapModel.setWeak(II)I -/
abbrev rm_X2_setWeak : Room := { frames := 3, cells := 0, slots := 0, locals := 65 }
set_option maxHeartbeats 4000000 in
theorem m_X2_setWeak (l : Launch) (G : mm_G) (h0 : Nat) (x1 : Int32) (x2 : Int32) (σ : mm_M) (σf : mm_M) (rr : Int32) (hf : f_X2_setWeak h0 x1 x2 σ = some (rr, σf)) : Met l yX2_setWeak (ws_ yX2_setWeak cX2_setWeak 3 ((Option.some .int))) rm_X2_setWeak (mm_Pc G [.ref h0, .int x1, .int x2] σ) (mm_Qi G rr σf) 0 0 (mm_A G) := by
  refine mm_met (by decide) rfl rfl (by  exact Nat.le_of_ble_eq_true rfl) (fun p e s m below meth c ls F hH hr hlocks hname hl => ?_)
  have hl : lv_has ls 3 [(0, .ref h0), (1, .int x1), (2, .int x2)] := by  exact hl
  have F : mm_F p s m _ c RX2 cX2_setWeak 3 G := F
  have hx := F.1
  have hb := F.2.1
  have hml := F.2.2.1
  have hown := F.2.2.2.1
  have hts := F.2.2.2.2.1
  unfold f_X2_setWeak at hf
  refine lv_iload_n hx hb dX2_setWeak_0 rfl (lv_at hl 1 rfl) ?_
  refine lv_iconst (v := 0) hx hb dX2_setWeak_1 (by decide) ?_
  refine lv_iconst (v := 3) hx hb dX2_setWeak_2 (by decide) ?_
  replace hf := b1_i hf
  obtain ⟨v1, e1, hf⟩ := hf
  refine mm_ci (va_runS (As := [.int x1, .int (0 : Int32), .int (3 : Int32)]) (rest := []) ⟨hx, hb, hml, hown, hts⟩ (m_X2_in l G x1 (0 : Int32) (3 : Int32) σ v1 e1) (va_cwS 3 hts (lw_S q1107 q1108 q67 q1109) rfl rfl rfl (by decide +kernel) ⟨Nat.le_of_ble_eq_true rfl, Nat.le_of_ble_eq_true rfl⟩) (mm_preS F.2.2.2.2.2 hH) rfl rfl hl.1 rfl (lv_room (Nat.le_of_ble_eq_true rfl)) dX2_setWeak_3 ⟨Nat.le_of_ble_eq_true rfl, Nat.le_of_ble_eq_true rfl⟩) hH (fun H locs hH => ?_)
  refine lv_if_eq (tgt := 30) hx hb dX2_setWeak_6 (by decide) (fun c2 => ?_) (fun c2 => ?_)
  · rw [if_pos c2] at hf
    refine lv_ldc (v := (-1000002)) hx hb hown (hts _ q1110) dX2_setWeak_30 ?_
    obtain ⟨h1, h2⟩ := Prod.mk.inj (Option.some.inj hf)
    subst h1
    subst h2
    exact mm_reti F hH hr hlocks rfl rfl dX2_setWeak_32
  · rw [if_neg c2] at hf
    refine lv_aload_n hx hb dX2_setWeak_9 rfl (lv_at hl 0 rfl) ?_
    refine lv_iload_n hx hb dX2_setWeak_10 rfl (lv_at hl 2 rfl) ?_
    replace hf := b1_i hf
    obtain ⟨u, e2, hf⟩ := hf
    obtain ⟨fs, ek⟩ := ck_i e2
    replace hf := b1_i hf
    obtain ⟨v3, e3, hf⟩ := hf
    refine mm_ci (va_runV (As := [.int x2]) (rest := []) ⟨hx, hb, hml, hown, hts⟩ (m_X2_isReference l G h0 x2 σ v3 e3) (cwV 1 hts (lw_V q1156 q1158 qs40 q67 q1159) rfl rfl rfl (by decide +kernel) ⟨Nat.le_of_ble_eq_true rfl, Nat.le_of_ble_eq_true rfl⟩) (mm_preV F.2.2.2.2.2 hH (ci := 2) rfl ek) rfl rfl hl.1 rfl (lv_room (Nat.le_of_ble_eq_true rfl)) dX2_setWeak_11 ⟨Nat.le_of_ble_eq_true rfl, Nat.le_of_ble_eq_true rfl⟩) hH (fun H locs hH => ?_)
    refine lv_if_eq (tgt := 30) hx hb dX2_setWeak_14 (by decide) (fun c4 => ?_) (fun c4 => ?_)
    · rw [if_pos c4] at hf
      refine lv_ldc (v := (-1000002)) hx hb hown (hts _ q1110) dX2_setWeak_30 ?_
      obtain ⟨h1, h2⟩ := Prod.mk.inj (Option.some.inj hf)
      subst h1
      subst h2
      exact mm_reti F hH hr hlocks rfl rfl dX2_setWeak_32
    · rw [if_neg c4] at hf
      refine lv_aload_n hx hb dX2_setWeak_17 rfl (lv_at hl 0 rfl) ?_
      refine lv_sipush (v := 1206) hx hb dX2_setWeak_18 (by decide) ?_
      refine lv_iload_n hx hb dX2_setWeak_21 rfl (lv_at hl 1 rfl) ?_
      refine lv_iadd hx hb dX2_setWeak_22 ?_
      refine lv_iload_n hx hb dX2_setWeak_23 rfl (lv_at hl 2 rfl) ?_
      replace hf := b1_i hf
      obtain ⟨u, e4, hf⟩ := hf
      obtain ⟨fs, ek⟩ := ck_i e4
      replace hf := b2_i hf
      obtain ⟨v5, σ6, e5, hf⟩ := hf
      refine mm_ci (va_runV (As := [.int ((1206 : Int32) + x1), .int x2]) (rest := []) ⟨hx, hb, hml, hown, hts⟩ (m_X2_setsSlot l G h0 ((1206 : Int32) + x1) x2 σ σ6 v5 e5) (cwV 2 hts (lw_V q1187 q1189 qs42 q67 q1190) rfl rfl rfl (by decide +kernel) ⟨Nat.le_of_ble_eq_true rfl, Nat.le_of_ble_eq_true rfl⟩) (mm_preV F.2.2.2.2.2 hH (ci := 2) rfl ek) rfl rfl hl.1 rfl (lv_room (Nat.le_of_ble_eq_true rfl)) dX2_setWeak_24 ⟨Nat.le_of_ble_eq_true rfl, Nat.le_of_ble_eq_true rfl⟩) hH (fun H locs hH => ?_)
      refine lv_goto (tgt := 32) hx hb dX2_setWeak_27 (by decide) ?_
      obtain ⟨h1, h2⟩ := Prod.mk.inj (Option.some.inj hf)
      subst h1
      subst h2
      exact mm_reti F hH hr hlocks rfl rfl dX2_setWeak_32
/-! IslandHeapModel.weak(I)I -/
abbrev rm_X2_weak : Room := { frames := 1, cells := 0, slots := 0, locals := 22 }
set_option maxHeartbeats 4000000 in
theorem m_X2_weak (l : Launch) (G : mm_G) (h0 : Nat) (x1 : Int32) (σ : mm_M) (rr : Int32) (hf : f_X2_weak h0 x1 σ = some rr) : Met l yX2_weak (ws_ yX2_weak cX2_weak 2 ((Option.some .int))) rm_X2_weak (mm_Pc G [.ref h0, .int x1] σ) (mm_Qi G rr σ) 0 0 (mm_A G) := by
  refine mm_met (by decide) rfl rfl (by  exact Nat.le_of_ble_eq_true rfl) (fun p e s m below meth c ls F hH hr hlocks hname hl => ?_)
  have hl : lv_has ls 2 [(0, .ref h0), (1, .int x1)] := by  exact hl
  have F : mm_F p s m _ c RX2 cX2_weak 2 G := F
  have hx := F.1
  have hb := F.2.1
  have hml := F.2.2.1
  have hown := F.2.2.2.1
  have hts := F.2.2.2.2.1
  unfold f_X2_weak at hf
  refine lv_iload_n hx hb dX2_weak_0 rfl (lv_at hl 1 rfl) ?_
  refine lv_iconst (v := 0) hx hb dX2_weak_1 (by decide) ?_
  refine lv_iconst (v := 3) hx hb dX2_weak_2 (by decide) ?_
  replace hf := b1_i hf
  obtain ⟨v1, e1, hf⟩ := hf
  refine mm_ci (va_runS (As := [.int x1, .int (0 : Int32), .int (3 : Int32)]) (rest := []) ⟨hx, hb, hml, hown, hts⟩ (m_X2_in l G x1 (0 : Int32) (3 : Int32) σ v1 e1) (va_cwS 3 hts (lw_S q1107 q1108 q67 q1109) rfl rfl rfl (by decide +kernel) ⟨Nat.le_of_ble_eq_true rfl, Nat.le_of_ble_eq_true rfl⟩) (mm_preS F.2.2.2.2.2 hH) rfl rfl hl.1 rfl (lv_room (Nat.le_of_ble_eq_true rfl)) dX2_weak_3 ⟨Nat.le_of_ble_eq_true rfl, Nat.le_of_ble_eq_true rfl⟩) hH (fun H locs hH => ?_)
  refine lv_if_eq (tgt := 22) hx hb dX2_weak_6 (by decide) (fun c2 => ?_) (fun c2 => ?_)
  · rw [if_pos c2] at hf
    refine lv_ldc (v := (-1000002)) hx hb hown (hts _ q1110) dX2_weak_22 ?_
    have h1 := Option.some.inj hf
    subst h1
    exact mm_reti F hH hr hlocks rfl rfl dX2_weak_24
  · rw [if_neg c2] at hf
    refine lv_aload_n hx hb dX2_weak_9 rfl (lv_at hl 0 rfl) ?_
    replace hf := b1_i hf
    obtain ⟨q3, e2, hf⟩ := hf
    refine mm_getA F hH mc_2 (k := 0) (by decide) (hts _ q1047) (fun _ h => h) e2 dX2_weak_10 ?_
    refine lv_sipush (v := 1206) hx hb dX2_weak_13 (by decide) ?_
    refine lv_iload_n hx hb dX2_weak_16 rfl (lv_at hl 1 rfl) ?_
    refine lv_iadd hx hb dX2_weak_17 ?_
    replace hf := b1_i hf
    obtain ⟨v4, e3, hf⟩ := hf
    refine mm_iald F hH e3 dX2_weak_18 ?_
    refine lv_goto (tgt := 24) hx hb dX2_weak_19 (by decide) ?_
    have h1 := Option.some.inj hf
    subst h1
    exact mm_reti F hH hr hlocks rfl rfl dX2_weak_24
/-! IslandHeapModel.occupied()I -/
abbrev rm_X2_occupied : Room := { frames := 0, cells := 0, slots := 0, locals := 0 }
set_option maxHeartbeats 4000000 in
theorem w_X2_occupied_4 {p : Program} {l : Launch} {e : Env} {s : State} {m : MethodId} {av : Array Value} {below : List Frame} {meth : Method} {c : Code} {G : mm_G} {rr : Int32} {n : Nat} {σ : mm_M} {h0 : Nat} (F : mm_F p s m av c RX2 cX2_occupied 3 G) (hr : meth.sig.returnType = (Option.some .int)) (hlocks : meth.locks = false) (hname : meth.name = yX2_occupied.name) (IH4 : ∀ (x1 : Int32) (x2 : Int32) (H : Heap) (locs : List Loc) (ls : Array Slot), mm_H G s σ H locs → lv_has ls 3 [(0, .ref h0), (1, .int x1), (2, .int x2)] → itn (s_X2_occupied h0 σ) n (x1, x2) = some rr → W p l e rm_X2_occupied s m av below meth c H locs 0 0 (MQ below (mm_Qi G rr σ) av s 0 0 (mm_A G)) (F0 m 4 ls []))  (x1 : Int32) (x2 : Int32)  (hf : evn (s_X2_occupied h0 σ) n (g_X2_occupied_4 h0 x1 x2 σ) = some rr) {H : Heap} {locs : List Loc} {ls : Array Slot} (hH : mm_H G s σ H locs) (hl : lv_has ls 3 [(0, .ref h0), (1, .int x1), (2, .int x2)]) : W p l e rm_X2_occupied s m av below meth c H locs 0 0 (MQ below (mm_Qi G rr σ) av s 0 0 (mm_A G)) (F0 m 4 ls []) := by
  have hx := F.1
  have hb := F.2.1
  have hml := F.2.2.1
  have hown := F.2.2.2.1
  have hts := F.2.2.2.2.1
  unfold g_X2_occupied_4 at hf
  refine lv_iload_n hx hb dX2_occupied_4 rfl (lv_at hl 2 rfl) ?_
  refine lv_aload_n hx hb dX2_occupied_5 rfl (lv_at hl 0 rfl) ?_
  replace hf := evn_b1 hf
  obtain ⟨q1, e1, hf⟩ := hf
  refine mm_getA F hH mc_2 (k := 0) (by decide) (hts _ q1047) (fun _ h => h) e1 dX2_occupied_6 ?_
  refine lv_sipush (v := 1216) hx hb dX2_occupied_9 (by decide) ?_
  replace hf := evn_b1 hf
  obtain ⟨v2, e2, hf⟩ := hf
  refine mm_iald F hH e2 dX2_occupied_12 ?_
  refine lv_icmp_ge (tgt := 33) hx hb dX2_occupied_13 (by decide) (fun c3 => ?_) (fun c3 => ?_)
  · rw [if_pos c3] at hf
    refine lv_iload_n hx hb dX2_occupied_33 rfl (lv_at hl 1 rfl) ?_
    rw [evn_r] at hf
    have h1 := Option.some.inj hf
    subst h1
    exact mm_reti F hH hr hlocks rfl rfl dX2_occupied_34
  · rw [if_neg c3] at hf
    refine lv_iload_n hx hb dX2_occupied_16 rfl (lv_at hl 1 rfl) ?_
    refine lv_aload_n hx hb dX2_occupied_17 rfl (lv_at hl 0 rfl) ?_
    replace hf := evn_b1 hf
    obtain ⟨q4, e3, hf⟩ := hf
    refine mm_getA F hH mc_2 (k := 0) (by decide) (hts _ q1047) (fun _ h => h) e3 dX2_occupied_18 ?_
    refine lv_iconst (v := 0) hx hb dX2_occupied_21 (by decide) ?_
    refine lv_iload_n hx hb dX2_occupied_22 rfl (lv_at hl 2 rfl) ?_
    refine lv_iadd hx hb dX2_occupied_23 ?_
    replace hf := evn_b1 hf
    obtain ⟨v5, e4, hf⟩ := hf
    refine mm_iald F hH e4 dX2_occupied_24 ?_
    refine lv_iadd hx hb dX2_occupied_25 ?_
    refine lv_istore_n (lv' := [(1, .int (x1 + v5)), (0, .ref h0), (2, .int x2)]) hx hb dX2_occupied_26 rfl hl (by decide) rfl (fun ls hl => ?_)
    refine lv_iinc (v := x2 + (1 : Int32)) (lv' := [(2, .int (x2 + (1 : Int32))), (1, .int (x1 + v5)), (0, .ref h0)]) hx hb dX2_occupied_27 hl (k := 2) rfl rfl (by decide) rfl (fun ls hl => ?_)
    refine lv_goto (tgt := 4) hx hb dX2_occupied_30 (by decide) ?_
    rw [evn_l] at hf
    exact IH4 (x1 + v5) (x2 + (1 : Int32)) _ _ _ hH (lv_sub hl [2, 1, 0] rfl) hf
set_option maxHeartbeats 4000000 in
theorem w_X2_occupied_0 {p : Program} {l : Launch} {e : Env} {s : State} {m : MethodId} {av : Array Value} {below : List Frame} {meth : Method} {c : Code} {G : mm_G} {rr : Int32} {n : Nat} {σ : mm_M} {h0 : Nat} (F : mm_F p s m av c RX2 cX2_occupied 3 G) (hr : meth.sig.returnType = (Option.some .int)) (hlocks : meth.locks = false) (hname : meth.name = yX2_occupied.name) (IH4 : ∀ (x1 : Int32) (x2 : Int32) (H : Heap) (locs : List Loc) (ls : Array Slot), mm_H G s σ H locs → lv_has ls 3 [(0, .ref h0), (1, .int x1), (2, .int x2)] → itn (s_X2_occupied h0 σ) n (x1, x2) = some rr → W p l e rm_X2_occupied s m av below meth c H locs 0 0 (MQ below (mm_Qi G rr σ) av s 0 0 (mm_A G)) (F0 m 4 ls []))    (hf : evn (s_X2_occupied h0 σ) n (g_X2_occupied_0 h0 σ) = some rr) {H : Heap} {locs : List Loc} {ls : Array Slot} (hH : mm_H G s σ H locs) (hl : lv_has ls 3 [(0, .ref h0)]) : W p l e rm_X2_occupied s m av below meth c H locs 0 0 (MQ below (mm_Qi G rr σ) av s 0 0 (mm_A G)) (F0 m 0 ls []) := by
  have hx := F.1
  have hb := F.2.1
  have hml := F.2.2.1
  have hown := F.2.2.2.1
  have hts := F.2.2.2.2.1
  unfold g_X2_occupied_0 at hf
  refine lv_iconst (v := 0) hx hb dX2_occupied_0 (by decide) ?_
  refine lv_istore_n (lv' := [(1, .int (0 : Int32)), (0, .ref h0)]) hx hb dX2_occupied_1 rfl hl (by decide) rfl (fun ls hl => ?_)
  refine lv_iconst (v := 0) hx hb dX2_occupied_2 (by decide) ?_
  refine lv_istore_n (lv' := [(2, .int (0 : Int32)), (1, .int (0 : Int32)), (0, .ref h0)]) hx hb dX2_occupied_3 rfl hl (by decide) rfl (fun ls hl => ?_)
  rw [evn_l] at hf
  exact IH4 (0 : Int32) (0 : Int32) _ _ _ hH (lv_sub hl [2, 1, 0] rfl) hf
set_option maxHeartbeats 4000000 in
theorem l_X2_occupied {p : Program} {l : Launch} {e : Env} {s : State} {m : MethodId} {av : Array Value} {below : List Frame} {meth : Method} {c : Code} {G : mm_G} {rr : Int32} {σ : mm_M} {h0 : Nat} (F : mm_F p s m av c RX2 cX2_occupied 3 G) (hr : meth.sig.returnType = (Option.some .int)) (hlocks : meth.locks = false) (hname : meth.name = yX2_occupied.name) : ∀ n : Nat, (∀ (x1 : Int32) (x2 : Int32) (H : Heap) (locs : List Loc) (ls : Array Slot), mm_H G s σ H locs → lv_has ls 3 [(0, .ref h0), (1, .int x1), (2, .int x2)] → itn (s_X2_occupied h0 σ) n (x1, x2) = some rr → W p l e rm_X2_occupied s m av below meth c H locs 0 0 (MQ below (mm_Qi G rr σ) av s 0 0 (mm_A G)) (F0 m 4 ls [])) := by
  intro n
  induction n with
  | zero =>
    exact fun x1 x2 H locs ls hH hl hf => by cases hf
  | succ n ih =>
    have IH4 := ih
    intro x1 x2 H locs ls hH hl hf
    rw [itn_s] at hf
    exact w_X2_occupied_4 F hr hlocks hname IH4 x1 x2 hf hH hl
set_option maxHeartbeats 4000000 in
theorem m_X2_occupied (l : Launch) (G : mm_G) (h0 : Nat) (σ : mm_M) (rr : Int32) (hf : f_X2_occupied h0 σ = some rr) : Met l yX2_occupied (ws_ yX2_occupied cX2_occupied 3 ((Option.some .int))) rm_X2_occupied (mm_Pc G [.ref h0] σ) (mm_Qi G rr σ) 0 0 (mm_A G) := by
  refine mm_met (by decide) rfl rfl (by  exact Nat.le_of_ble_eq_true rfl) (fun p e s m below meth c ls F hH hr hlocks hname hl => ?_)
  have hl : lv_has ls 3 [(0, .ref h0)] := by  exact hl
  have F : mm_F p s m _ c RX2 cX2_occupied 3 G := F
  unfold f_X2_occupied at hf
  obtain ⟨n, hf⟩ := lgo_i hf
  have IH := l_X2_occupied (l := l) (e := e) (below := below) (rr := rr) (σ := σ) (h0 := h0) F hr hlocks hname n
  exact w_X2_occupied_0 F hr hlocks hname IH  hf hH (lv_sub hl [0] rfl)
/-! IslandHeapModel.reach(I)V -/
abbrev rm_X2_reach : Room := { frames := 2, cells := 0, slots := 0, locals := 44 }
set_option maxHeartbeats 4000000 in
theorem w_X2_reach_14 {p : Program} {l : Launch} {e : Env} {s : State} {m : MethodId} {av : Array Value} {below : List Frame} {meth : Method} {c : Code} {G : mm_G} {σf : mm_M}  {h0 : Nat} {x1 : Int32} (F : mm_F p s m av c RX2 cX2_reach 3 G) (hr : meth.sig.returnType = (Option.none : Option Jvm.ClassFile.FieldType)) (hlocks : meth.locks = false) (hname : meth.name = yX2_reach.name)    (t0 : Int32) (σ : mm_M) (hf : g_X2_reach_14 h0 x1 t0 σ = some σf) {H : Heap} {locs : List Loc} {ls : Array Slot} (hH : mm_H G s σ H locs) (hl : lv_has ls 3 [(0, .ref h0), (1, .int x1)]) : W p l e rm_X2_reach s m av below meth c H locs 0 0 (MQ below (mm_Qv G σf) av s 0 0 (mm_A G)) (F0 m 14 ls [.int t0]) := by
  have hx := F.1
  have hb := F.2.1
  have hml := F.2.2.1
  have hown := F.2.2.2.1
  have hts := F.2.2.2.2.1
  unfold g_X2_reach_14 at hf
  refine lv_istore_n (lv' := [(2, .int t0), (0, .ref h0), (1, .int x1)]) hx hb dX2_reach_14 rfl hl (by decide) rfl (fun ls hl => ?_)
  refine lv_iload_n hx hb dX2_reach_15 rfl (lv_at hl 0 rfl) ?_
  refine lv_iconst (v := (-1)) hx hb dX2_reach_16 (by decide) ?_
  refine lv_icmp_eq (tgt := 29) hx hb dX2_reach_17 (by decide) (fun c1 => ?_) (fun c1 => ?_)
  · rw [if_pos c1] at hf
    have h1 := Option.some.inj hf
    subst h1
    exact mm_retv F hH hr hlocks dX2_reach_29
  · rw [if_neg c1] at hf
    refine lv_aload_n hx hb dX2_reach_20 rfl (lv_at hl 1 rfl) ?_
    replace hf := b1_i hf
    obtain ⟨q2, e1, hf⟩ := hf
    refine mm_getA F hH mc_2 (k := 8) (by decide) (hts _ q1055) (fun _ h => h) e1 dX2_reach_21 ?_
    refine lv_iload_n hx hb dX2_reach_24 rfl (lv_at hl 0 rfl) ?_
    replace hf := b1_i hf
    obtain ⟨v3, e2, hf⟩ := hf
    refine mm_zald F hH e2 dX2_reach_25 ?_
    refine lv_if_eq (tgt := 30) hx hb dX2_reach_26 (by decide) (fun c4 => ?_) (fun c4 => ?_)
    · rw [if_pos c4] at hf
      refine lv_aload_n hx hb dX2_reach_30 rfl (lv_at hl 1 rfl) ?_
      replace hf := b1_i hf
      obtain ⟨q5, e3, hf⟩ := hf
      refine mm_getA F hH mc_2 (k := 8) (by decide) (hts _ q1055) (fun _ h => h) e3 dX2_reach_31 ?_
      refine lv_iload_n hx hb dX2_reach_34 rfl (lv_at hl 0 rfl) ?_
      refine lv_iconst (v := 1) hx hb dX2_reach_35 (by decide) ?_
      replace hf := b1_i hf
      obtain ⟨σ6, e4, hf⟩ := hf
      refine mm_zast F hH e4 dX2_reach_36 (fun H locs hH => ?_)
      refine lv_aload_n hx hb dX2_reach_37 rfl (lv_at hl 1 rfl) ?_
      replace hf := b1_i hf
      obtain ⟨v7, e5, hf⟩ := hf
      refine mm_getI F hH mc_2 (k := 10) (by decide) (hts _ q1057) (fun _ h => h) e5 dX2_reach_38 ?_
      refine lv_aload_n hx hb dX2_reach_41 rfl (lv_at hl 1 rfl) ?_
      replace hf := b1_i hf
      obtain ⟨q8, e6, hf⟩ := hf
      refine mm_getA F hH mc_2 (k := 0) (by decide) (hts _ q1047) (fun _ h => h) e6 dX2_reach_42 ?_
      refine lv_sipush (v := 1217) hx hb dX2_reach_45 (by decide) ?_
      replace hf := b1_i hf
      obtain ⟨v9, e7, hf⟩ := hf
      refine mm_iald F hH e7 dX2_reach_48 ?_
      refine lv_icmp_ne (tgt := 58) hx hb dX2_reach_49 (by decide) (fun c10 => ?_) (fun c10 => ?_)
      · rw [if_neg c10] at hf
        refine lv_aload_n hx hb dX2_reach_58 rfl (lv_at hl 1 rfl) ?_
        replace hf := b1_i hf
        obtain ⟨q11, e8, hf⟩ := hf
        refine mm_getA F hH mc_2 (k := 9) (by decide) (hts _ q1056) (fun _ h => h) e8 dX2_reach_59 ?_
        refine lv_aload_n hx hb dX2_reach_62 rfl (lv_at hl 1 rfl) ?_
        replace hf := b1_i hf
        obtain ⟨v12, e9, hf⟩ := hf
        refine mm_getI F hH mc_2 (k := 10) (by decide) (hts _ q1057) (fun _ h => h) e9 dX2_reach_63 ?_
        refine lv_iload_n hx hb dX2_reach_66 rfl (lv_at hl 0 rfl) ?_
        replace hf := b1_i hf
        obtain ⟨σ13, e10, hf⟩ := hf
        refine mm_iast F hH e10 dX2_reach_67 (fun H locs hH => ?_)
        refine lv_aload_n hx hb dX2_reach_68 rfl (lv_at hl 1 rfl) ?_
        refine lv_dup hx hb dX2_reach_69 rfl ?_
        replace hf := b1_i hf
        obtain ⟨v14, e11, hf⟩ := hf
        refine mm_getI F hH mc_2 (k := 10) (by decide) (hts _ q1057) (fun _ h => h) e11 dX2_reach_70 ?_
        refine lv_iconst (v := 1) hx hb dX2_reach_73 (by decide) ?_
        refine lv_iadd hx hb dX2_reach_74 ?_
        replace hf := b1_i hf
        obtain ⟨σ15, e12, hf⟩ := hf
        refine mm_put F hH mc_2 (k := 10) (v := vI (v14 + (1 : Int32))) (by decide) (hts _ q1057) (fun _ h => h) rfl rfl rfl e12 dX2_reach_75 (fun H locs hH => ?_)
        refine lv_aload_n hx hb dX2_reach_78 rfl (lv_at hl 1 rfl) ?_
        refine lv_aload_n hx hb dX2_reach_79 rfl (lv_at hl 1 rfl) ?_
        replace hf := b1_i hf
        obtain ⟨v16, e13, hf⟩ := hf
        refine mm_getI F hH mc_2 (k := 10) (by decide) (hts _ q1057) (fun _ h => h) e13 dX2_reach_80 ?_
        refine lv_aload_n hx hb dX2_reach_83 rfl (lv_at hl 1 rfl) ?_
        replace hf := b1_i hf
        obtain ⟨v17, e14, hf⟩ := hf
        refine mm_getI F hH mc_2 (k := 11) (by decide) (hts _ q1058) (fun _ h => h) e14 dX2_reach_84 ?_
        refine lv_icmp_le (tgt := 97) hx hb dX2_reach_87 (by decide) (fun c18 => ?_) (fun c18 => ?_)
        · rw [if_pos c18] at hf
          refine lv_aload_n hx hb dX2_reach_97 rfl (lv_at hl 1 rfl) ?_
          replace hf := b1_i hf
          obtain ⟨v19, e15, hf⟩ := hf
          refine mm_getI F hH mc_2 (k := 11) (by decide) (hts _ q1058) (fun _ h => h) e15 dX2_reach_98 ?_
          replace hf := b1_i hf
          obtain ⟨σ20, e16, hf⟩ := hf
          refine mm_put F hH mc_2 (k := 11) (v := vI v19) (by decide) (hts _ q1058) (fun _ h => h) rfl rfl rfl e16 dX2_reach_101 (fun H locs hH => ?_)
          have h1 := Option.some.inj hf
          subst h1
          exact mm_retv F hH hr hlocks dX2_reach_104
        · rw [if_neg c18] at hf
          refine lv_aload_n hx hb dX2_reach_90 rfl (lv_at hl 1 rfl) ?_
          replace hf := b1_i hf
          obtain ⟨v21, e17, hf⟩ := hf
          refine mm_getI F hH mc_2 (k := 10) (by decide) (hts _ q1057) (fun _ h => h) e17 dX2_reach_91 ?_
          refine lv_goto (tgt := 101) hx hb dX2_reach_94 (by decide) ?_
          replace hf := b1_i hf
          obtain ⟨σ22, e18, hf⟩ := hf
          refine mm_put F hH mc_2 (k := 11) (v := vI v21) (by decide) (hts _ q1058) (fun _ h => h) rfl rfl rfl e18 dX2_reach_101 (fun H locs hH => ?_)
          have h1 := Option.some.inj hf
          subst h1
          exact mm_retv F hH hr hlocks dX2_reach_104
      · rw [if_pos c10] at hf
        refine lv_aload_n hx hb dX2_reach_52 rfl (lv_at hl 1 rfl) ?_
        refine lv_iconst (v := 1) hx hb dX2_reach_53 (by decide) ?_
        replace hf := b1_i hf
        obtain ⟨σ23, e19, hf⟩ := hf
        refine mm_put F hH mc_2 (k := 12) (v := vI (1 : Int32)) (by decide) (hts _ q1059) (fun _ h => h) rfl rfl rfl e19 dX2_reach_54 (fun H locs hH => ?_)
        have h1 := Option.some.inj hf
        subst h1
        exact mm_retv F hH hr hlocks dX2_reach_57
    · rw [if_neg c4] at hf
      have h1 := Option.some.inj hf
      subst h1
      exact mm_retv F hH hr hlocks dX2_reach_29
set_option maxHeartbeats 4000000 in
theorem m_X2_reach (l : Launch) (G : mm_G) (h0 : Nat) (x1 : Int32) (σ : mm_M) (σf : mm_M) (hf : f_X2_reach h0 x1 σ = some σf) : Met l yX2_reach (ws_ yX2_reach cX2_reach 3 ((Option.none : Option Jvm.ClassFile.FieldType))) rm_X2_reach (mm_Pc G [.ref h0, .int x1] σ) (mm_Qv G σf) 0 0 (mm_A G) := by
  refine mm_met (by decide) rfl rfl (by  exact Nat.le_of_ble_eq_true rfl) (fun p e s m below meth c ls F hH hr hlocks hname hl => ?_)
  have hl : lv_has ls 3 [(0, .ref h0), (1, .int x1)] := by  exact hl
  have F : mm_F p s m _ c RX2 cX2_reach 3 G := F
  have hx := F.1
  have hb := F.2.1
  have hml := F.2.2.1
  have hown := F.2.2.2.1
  have hts := F.2.2.2.2.1
  unfold f_X2_reach at hf
  refine lv_iload_n hx hb dX2_reach_0 rfl (lv_at hl 1 rfl) ?_
  refine lv_iconst (v := (-1)) hx hb dX2_reach_1 (by decide) ?_
  refine lv_icmp_ne (tgt := 9) hx hb dX2_reach_2 (by decide) (fun c1 => ?_) (fun c1 => ?_)
  · rw [if_neg c1] at hf
    refine lv_aload_n hx hb dX2_reach_9 rfl (lv_at hl 0 rfl) ?_
    refine lv_iload_n hx hb dX2_reach_10 rfl (lv_at hl 1 rfl) ?_
    replace hf := b1_i hf
    obtain ⟨u, e1, hf⟩ := hf
    obtain ⟨fs, ek⟩ := ck_i e1
    replace hf := b1_i hf
    obtain ⟨v2, e2, hf⟩ := hf
    refine mm_ci (va_runV (As := [.int x1]) (rest := []) ⟨hx, hb, hml, hown, hts⟩ (m_X2_objectOf l G h0 x1 σ v2 e2) (cwV 1 hts (lw_V q1124 q1126 qs34 q67 q1127) rfl rfl rfl (by decide +kernel) ⟨Nat.le_of_ble_eq_true rfl, Nat.le_of_ble_eq_true rfl⟩) (mm_preV F.2.2.2.2.2 hH (ci := 2) rfl ek) rfl rfl hl.1 rfl (lv_room (Nat.le_of_ble_eq_true rfl)) dX2_reach_11 ⟨Nat.le_of_ble_eq_true rfl, Nat.le_of_ble_eq_true rfl⟩) hH (fun H locs hH => ?_)
    exact w_X2_reach_14 F hr hlocks hname  v2 σ hf hH (lv_sub hl [0, 1] rfl)
  · rw [if_pos c1] at hf
    refine lv_iconst (v := (-1)) hx hb dX2_reach_5 (by decide) ?_
    refine lv_goto (tgt := 14) hx hb dX2_reach_6 (by decide) ?_
    exact w_X2_reach_14 F hr hlocks hname  (-1 : Int32) σ hf hH (lv_sub hl [0, 1] rfl)
/-! IslandHeapModel.drains()V -/
abbrev rm_X2_drains : Room := { frames := 3, cells := 0, slots := 0, locals := 66 }
set_option maxHeartbeats 4000000 in
theorem w_X2_drains_0 {p : Program} {l : Launch} {e : Env} {s : State} {m : MethodId} {av : Array Value} {below : List Frame} {meth : Method} {c : Code} {G : mm_G} {σf : mm_M} {n : Nat} {h0 : Nat} (F : mm_F p s m av c RX2 cX2_drains 3 G) (hr : meth.sig.returnType = (Option.none : Option Jvm.ClassFile.FieldType)) (hlocks : meth.locks = false) (hname : meth.name = yX2_drains.name) (IH0 : ∀  (σ : mm_M) (H : Heap) (locs : List Loc) (ls : Array Slot), mm_H G s σ H locs → lv_has ls 3 [(0, .ref h0)] → itn (s_X2_drains h0) n (.inl σ) = some σf → W p l e rm_X2_drains s m av below meth c H locs 0 0 (MQ below (mm_Qv G σf) av s 0 0 (mm_A G)) (F0 m 0 ls [])) (IH29 : ∀ (x1 : Int32) (x2 : Int32) (σ : mm_M) (H : Heap) (locs : List Loc) (ls : Array Slot), mm_H G s σ H locs → lv_has ls 3 [(0, .ref h0), (1, .int x1), (2, .int x2)] → itn (s_X2_drains h0) n (.inr (x1, x2, σ)) = some σf → W p l e rm_X2_drains s m av below meth c H locs 0 0 (MQ below (mm_Qv G σf) av s 0 0 (mm_A G)) (F0 m 29 ls []))    (σ : mm_M) (hf : evn (s_X2_drains h0) n (g_X2_drains_0 h0 σ) = some σf) {H : Heap} {locs : List Loc} {ls : Array Slot} (hH : mm_H G s σ H locs) (hl : lv_has ls 3 [(0, .ref h0)]) : W p l e rm_X2_drains s m av below meth c H locs 0 0 (MQ below (mm_Qv G σf) av s 0 0 (mm_A G)) (F0 m 0 ls []) := by
  have hx := F.1
  have hb := F.2.1
  have hml := F.2.2.1
  have hown := F.2.2.2.1
  have hts := F.2.2.2.2.1
  unfold g_X2_drains_0 at hf
  refine lv_aload_n hx hb dX2_drains_0 rfl (lv_at hl 0 rfl) ?_
  replace hf := evn_b1 hf
  obtain ⟨v1, e1, hf⟩ := hf
  refine mm_getI F hH mc_2 (k := 10) (by decide) (hts _ q1057) (fun _ h => h) e1 dX2_drains_1 ?_
  refine lv_if_le (tgt := 68) hx hb dX2_drains_4 (by decide) (fun c2 => ?_) (fun c2 => ?_)
  · rw [if_pos c2] at hf
    rw [evn_r] at hf
    have h1 := Option.some.inj hf
    subst h1
    exact mm_retv F hH hr hlocks dX2_drains_68
  · rw [if_neg c2] at hf
    refine lv_aload_n hx hb dX2_drains_7 rfl (lv_at hl 0 rfl) ?_
    refine lv_dup hx hb dX2_drains_8 rfl ?_
    replace hf := evn_b1 hf
    obtain ⟨v3, e2, hf⟩ := hf
    refine mm_getI F hH mc_2 (k := 10) (by decide) (hts _ q1057) (fun _ h => h) e2 dX2_drains_9 ?_
    refine lv_iconst (v := 1) hx hb dX2_drains_12 (by decide) ?_
    refine lv_isub hx hb dX2_drains_13 ?_
    replace hf := evn_b1 hf
    obtain ⟨σ4, e3, hf⟩ := hf
    refine mm_put F hH mc_2 (k := 10) (v := vI (v3 - (1 : Int32))) (by decide) (hts _ q1057) (fun _ h => h) rfl rfl rfl e3 dX2_drains_14 (fun H locs hH => ?_)
    refine lv_aload_n hx hb dX2_drains_17 rfl (lv_at hl 0 rfl) ?_
    replace hf := evn_b1 hf
    obtain ⟨q5, e4, hf⟩ := hf
    refine mm_getA F hH mc_2 (k := 9) (by decide) (hts _ q1056) (fun _ h => h) e4 dX2_drains_18 ?_
    refine lv_aload_n hx hb dX2_drains_21 rfl (lv_at hl 0 rfl) ?_
    replace hf := evn_b1 hf
    obtain ⟨v6, e5, hf⟩ := hf
    refine mm_getI F hH mc_2 (k := 10) (by decide) (hts _ q1057) (fun _ h => h) e5 dX2_drains_22 ?_
    replace hf := evn_b1 hf
    obtain ⟨v7, e6, hf⟩ := hf
    refine mm_iald F hH e6 dX2_drains_25 ?_
    refine lv_istore_n (lv' := [(1, .int v7), (0, .ref h0)]) hx hb dX2_drains_26 rfl hl (by decide) rfl (fun ls hl => ?_)
    refine lv_iconst (v := 1) hx hb dX2_drains_27 (by decide) ?_
    refine lv_istore_n (lv' := [(2, .int (1 : Int32)), (1, .int v7), (0, .ref h0)]) hx hb dX2_drains_28 rfl hl (by decide) rfl (fun ls hl => ?_)
    rw [evn_l] at hf
    exact IH29 v7 (1 : Int32) σ4 _ _ _ hH (lv_sub hl [2, 1, 0] rfl) hf
set_option maxHeartbeats 4000000 in
theorem w_X2_drains_29 {p : Program} {l : Launch} {e : Env} {s : State} {m : MethodId} {av : Array Value} {below : List Frame} {meth : Method} {c : Code} {G : mm_G} {σf : mm_M} {n : Nat} {h0 : Nat} (F : mm_F p s m av c RX2 cX2_drains 3 G) (hr : meth.sig.returnType = (Option.none : Option Jvm.ClassFile.FieldType)) (hlocks : meth.locks = false) (hname : meth.name = yX2_drains.name) (IH0 : ∀  (σ : mm_M) (H : Heap) (locs : List Loc) (ls : Array Slot), mm_H G s σ H locs → lv_has ls 3 [(0, .ref h0)] → itn (s_X2_drains h0) n (.inl σ) = some σf → W p l e rm_X2_drains s m av below meth c H locs 0 0 (MQ below (mm_Qv G σf) av s 0 0 (mm_A G)) (F0 m 0 ls [])) (IH29 : ∀ (x1 : Int32) (x2 : Int32) (σ : mm_M) (H : Heap) (locs : List Loc) (ls : Array Slot), mm_H G s σ H locs → lv_has ls 3 [(0, .ref h0), (1, .int x1), (2, .int x2)] → itn (s_X2_drains h0) n (.inr (x1, x2, σ)) = some σf → W p l e rm_X2_drains s m av below meth c H locs 0 0 (MQ below (mm_Qv G σf) av s 0 0 (mm_A G)) (F0 m 29 ls []))  (x1 : Int32) (x2 : Int32)  (σ : mm_M) (hf : evn (s_X2_drains h0) n (g_X2_drains_29 h0 x1 x2 σ) = some σf) {H : Heap} {locs : List Loc} {ls : Array Slot} (hH : mm_H G s σ H locs) (hl : lv_has ls 3 [(0, .ref h0), (1, .int x1), (2, .int x2)]) : W p l e rm_X2_drains s m av below meth c H locs 0 0 (MQ below (mm_Qv G σf) av s 0 0 (mm_A G)) (F0 m 29 ls []) := by
  have hx := F.1
  have hb := F.2.1
  have hml := F.2.2.1
  have hown := F.2.2.2.1
  have hts := F.2.2.2.2.1
  unfold g_X2_drains_29 at hf
  refine lv_iload_n hx hb dX2_drains_29 rfl (lv_at hl 2 rfl) ?_
  refine lv_aload_n hx hb dX2_drains_30 rfl (lv_at hl 0 rfl) ?_
  replace hf := evn_b1 hf
  obtain ⟨q1, e1, hf⟩ := hf
  refine mm_getA F hH mc_2 (k := 0) (by decide) (hts _ q1047) (fun _ h => h) e1 dX2_drains_31 ?_
  refine lv_sipush (v := 200) hx hb dX2_drains_34 (by decide) ?_
  refine lv_iload_n hx hb dX2_drains_37 rfl (lv_at hl 1 rfl) ?_
  refine lv_iadd hx hb dX2_drains_38 ?_
  replace hf := evn_b1 hf
  obtain ⟨v2, e2, hf⟩ := hf
  refine mm_iald F hH e2 dX2_drains_39 ?_
  refine lv_icmp_gt (tgt := 65) hx hb dX2_drains_40 (by decide) (fun c3 => ?_) (fun c3 => ?_)
  · rw [if_pos c3] at hf
    refine lv_goto (tgt := 0) hx hb dX2_drains_65 (by decide) ?_
    rw [evn_l] at hf
    exact IH0  σ _ _ _ hH (lv_sub hl [0] rfl) hf
  · rw [if_neg c3] at hf
    refine lv_aload_n hx hb dX2_drains_43 rfl (lv_at hl 0 rfl) ?_
    refine lv_aload_n hx hb dX2_drains_44 rfl (lv_at hl 0 rfl) ?_
    replace hf := evn_b1 hf
    obtain ⟨q4, e3, hf⟩ := hf
    refine mm_getA F hH mc_2 (k := 0) (by decide) (hts _ q1047) (fun _ h => h) e3 dX2_drains_45 ?_
    refine lv_sipush (v := 800) hx hb dX2_drains_48 (by decide) ?_
    refine lv_iload_n hx hb dX2_drains_51 rfl (lv_at hl 1 rfl) ?_
    refine lv_iadd hx hb dX2_drains_52 ?_
    refine lv_iload_n hx hb dX2_drains_53 rfl (lv_at hl 2 rfl) ?_
    refine lv_iadd hx hb dX2_drains_54 ?_
    replace hf := evn_b1 hf
    obtain ⟨v5, e4, hf⟩ := hf
    refine mm_iald F hH e4 dX2_drains_55 ?_
    replace hf := evn_b1 hf
    obtain ⟨u, e5, hf⟩ := hf
    obtain ⟨fs, ek⟩ := ck_i e5
    replace hf := evn_b1 hf
    obtain ⟨σ6, e6, hf⟩ := hf
    refine mm_cv (va_runV (As := [.int v5]) (rest := []) ⟨hx, hb, hml, hown, hts⟩ (m_X2_reach l G h0 v5 σ σ6 e6) (cwV 1 hts (lw_V q1215 q1217 qs45 q67 q1218) rfl rfl rfl (by decide +kernel) ⟨Nat.le_of_ble_eq_true rfl, Nat.le_of_ble_eq_true rfl⟩) (mm_preV F.2.2.2.2.2 hH (ci := 2) rfl ek) rfl rfl hl.1 rfl (lv_room (Nat.le_of_ble_eq_true rfl)) dX2_drains_56 ⟨Nat.le_of_ble_eq_true rfl, Nat.le_of_ble_eq_true rfl⟩) hH (fun H locs hH => ?_)
    refine lv_iinc (v := x2 + (1 : Int32)) (lv' := [(2, .int (x2 + (1 : Int32))), (0, .ref h0), (1, .int x1)]) hx hb dX2_drains_59 hl (k := 2) rfl rfl (by decide) rfl (fun ls hl => ?_)
    refine lv_goto (tgt := 29) hx hb dX2_drains_62 (by decide) ?_
    rw [evn_l] at hf
    exact IH29 x1 (x2 + (1 : Int32)) σ6 _ _ _ hH (lv_sub hl [1, 2, 0] rfl) hf
set_option maxHeartbeats 4000000 in
theorem l_X2_drains {p : Program} {l : Launch} {e : Env} {s : State} {m : MethodId} {av : Array Value} {below : List Frame} {meth : Method} {c : Code} {G : mm_G} {σf : mm_M} {h0 : Nat} (F : mm_F p s m av c RX2 cX2_drains 3 G) (hr : meth.sig.returnType = (Option.none : Option Jvm.ClassFile.FieldType)) (hlocks : meth.locks = false) (hname : meth.name = yX2_drains.name) : ∀ n : Nat, (∀  (σ : mm_M) (H : Heap) (locs : List Loc) (ls : Array Slot), mm_H G s σ H locs → lv_has ls 3 [(0, .ref h0)] → itn (s_X2_drains h0) n (.inl σ) = some σf → W p l e rm_X2_drains s m av below meth c H locs 0 0 (MQ below (mm_Qv G σf) av s 0 0 (mm_A G)) (F0 m 0 ls [])) ∧ (∀ (x1 : Int32) (x2 : Int32) (σ : mm_M) (H : Heap) (locs : List Loc) (ls : Array Slot), mm_H G s σ H locs → lv_has ls 3 [(0, .ref h0), (1, .int x1), (2, .int x2)] → itn (s_X2_drains h0) n (.inr (x1, x2, σ)) = some σf → W p l e rm_X2_drains s m av below meth c H locs 0 0 (MQ below (mm_Qv G σf) av s 0 0 (mm_A G)) (F0 m 29 ls [])) := by
  intro n
  induction n with
  | zero =>
    exact ⟨fun σ H locs ls hH hl hf => (by cases hf), fun x1 x2 σ H locs ls hH hl hf => (by cases hf)⟩
  | succ n ih =>
    obtain ⟨IH0, IH29⟩ := ih
    refine ⟨?_, ?_⟩
    · intro σ H locs ls hH hl hf
      rw [itn_s] at hf
      exact w_X2_drains_0 F hr hlocks hname IH0 IH29 σ hf hH hl
    · intro x1 x2 σ H locs ls hH hl hf
      rw [itn_s] at hf
      exact w_X2_drains_29 F hr hlocks hname IH0 IH29 x1 x2 σ hf hH hl
set_option maxHeartbeats 4000000 in
theorem m_X2_drains (l : Launch) (G : mm_G) (h0 : Nat) (σ : mm_M) (σf : mm_M) (hf : f_X2_drains h0 σ = some σf) : Met l yX2_drains (ws_ yX2_drains cX2_drains 3 ((Option.none : Option Jvm.ClassFile.FieldType))) rm_X2_drains (mm_Pc G [.ref h0] σ) (mm_Qv G σf) 0 0 (mm_A G) := by
  refine mm_met (by decide) rfl rfl (by  exact Nat.le_of_ble_eq_true rfl) (fun p e s m below meth c ls F hH hr hlocks hname hl => ?_)
  have hl : lv_has ls 3 [(0, .ref h0)] := by  exact hl
  have F : mm_F p s m _ c RX2 cX2_drains 3 G := F
  unfold f_X2_drains at hf
  obtain ⟨n, hf⟩ := lgo_i hf
  have IH := l_X2_drains (l := l) (e := e) (below := below) (σf := σf) (h0 := h0) F hr hlocks hname n
  exact IH.1  σ _ _ _ hH (lv_sub hl [0] rfl) hf
/-! IslandHeapModel.scans()V -/
abbrev rm_X2_scans : Room := { frames := 4, cells := 0, slots := 0, locals := 88 }
set_option maxHeartbeats 4000000 in
theorem w_X2_scans_2 {p : Program} {l : Launch} {e : Env} {s : State} {m : MethodId} {av : Array Value} {below : List Frame} {meth : Method} {c : Code} {G : mm_G} {σf : mm_M} {n : Nat} {h0 : Nat} (F : mm_F p s m av c RX2 cX2_scans 3 G) (hr : meth.sig.returnType = (Option.none : Option Jvm.ClassFile.FieldType)) (hlocks : meth.locks = false) (hname : meth.name = yX2_scans.name) (IH2 : ∀ (x1 : Int32) (σ : mm_M) (H : Heap) (locs : List Loc) (ls : Array Slot), mm_H G s σ H locs → lv_has ls 3 [(0, .ref h0), (1, .int x1)] → itn (s_X2_scans h0) n (.inl (x1, σ)) = some σf → W p l e rm_X2_scans s m av below meth c H locs 0 0 (MQ below (mm_Qv G σf) av s 0 0 (mm_A G)) (F0 m 2 ls [])) (IH16 : ∀ (x1 : Int32) (x2 : Int32) (σ : mm_M) (H : Heap) (locs : List Loc) (ls : Array Slot), mm_H G s σ H locs → lv_has ls 3 [(0, .ref h0), (1, .int x1), (2, .int x2)] → itn (s_X2_scans h0) n (.inr (x1, x2, σ)) = some σf → W p l e rm_X2_scans s m av below meth c H locs 0 0 (MQ below (mm_Qv G σf) av s 0 0 (mm_A G)) (F0 m 16 ls []))  (x1 : Int32)  (σ : mm_M) (hf : evn (s_X2_scans h0) n (g_X2_scans_2 h0 x1 σ) = some σf) {H : Heap} {locs : List Loc} {ls : Array Slot} (hH : mm_H G s σ H locs) (hl : lv_has ls 3 [(0, .ref h0), (1, .int x1)]) : W p l e rm_X2_scans s m av below meth c H locs 0 0 (MQ below (mm_Qv G σf) av s 0 0 (mm_A G)) (F0 m 2 ls []) := by
  have hx := F.1
  have hb := F.2.1
  have hml := F.2.2.1
  have hown := F.2.2.2.1
  have hts := F.2.2.2.2.1
  unfold g_X2_scans_2 at hf
  refine lv_iload_n hx hb dX2_scans_2 rfl (lv_at hl 1 rfl) ?_
  refine lv_aload_n hx hb dX2_scans_3 rfl (lv_at hl 0 rfl) ?_
  replace hf := evn_b1 hf
  obtain ⟨q1, e1, hf⟩ := hf
  refine mm_getA F hH mc_2 (k := 0) (by decide) (hts _ q1047) (fun _ h => h) e1 dX2_scans_4 ?_
  refine lv_sipush (v := 1216) hx hb dX2_scans_7 (by decide) ?_
  replace hf := evn_b1 hf
  obtain ⟨v2, e2, hf⟩ := hf
  refine mm_iald F hH e2 dX2_scans_10 ?_
  refine lv_icmp_ge (tgt := 82) hx hb dX2_scans_11 (by decide) (fun c3 => ?_) (fun c3 => ?_)
  · rw [if_pos c3] at hf
    rw [evn_r] at hf
    have h1 := Option.some.inj hf
    subst h1
    exact mm_retv F hH hr hlocks dX2_scans_82
  · rw [if_neg c3] at hf
    refine lv_iconst (v := 1) hx hb dX2_scans_14 (by decide) ?_
    refine lv_istore_n (lv' := [(2, .int (1 : Int32)), (0, .ref h0), (1, .int x1)]) hx hb dX2_scans_15 rfl hl (by decide) rfl (fun ls hl => ?_)
    rw [evn_l] at hf
    exact IH16 x1 (1 : Int32) σ _ _ _ hH (lv_sub hl [1, 2, 0] rfl) hf
set_option maxHeartbeats 4000000 in
theorem w_X2_scans_16 {p : Program} {l : Launch} {e : Env} {s : State} {m : MethodId} {av : Array Value} {below : List Frame} {meth : Method} {c : Code} {G : mm_G} {σf : mm_M} {n : Nat} {h0 : Nat} (F : mm_F p s m av c RX2 cX2_scans 3 G) (hr : meth.sig.returnType = (Option.none : Option Jvm.ClassFile.FieldType)) (hlocks : meth.locks = false) (hname : meth.name = yX2_scans.name) (IH2 : ∀ (x1 : Int32) (σ : mm_M) (H : Heap) (locs : List Loc) (ls : Array Slot), mm_H G s σ H locs → lv_has ls 3 [(0, .ref h0), (1, .int x1)] → itn (s_X2_scans h0) n (.inl (x1, σ)) = some σf → W p l e rm_X2_scans s m av below meth c H locs 0 0 (MQ below (mm_Qv G σf) av s 0 0 (mm_A G)) (F0 m 2 ls [])) (IH16 : ∀ (x1 : Int32) (x2 : Int32) (σ : mm_M) (H : Heap) (locs : List Loc) (ls : Array Slot), mm_H G s σ H locs → lv_has ls 3 [(0, .ref h0), (1, .int x1), (2, .int x2)] → itn (s_X2_scans h0) n (.inr (x1, x2, σ)) = some σf → W p l e rm_X2_scans s m av below meth c H locs 0 0 (MQ below (mm_Qv G σf) av s 0 0 (mm_A G)) (F0 m 16 ls []))  (x1 : Int32) (x2 : Int32)  (σ : mm_M) (hf : evn (s_X2_scans h0) n (g_X2_scans_16 h0 x1 x2 σ) = some σf) {H : Heap} {locs : List Loc} {ls : Array Slot} (hH : mm_H G s σ H locs) (hl : lv_has ls 3 [(0, .ref h0), (1, .int x1), (2, .int x2)]) : W p l e rm_X2_scans s m av below meth c H locs 0 0 (MQ below (mm_Qv G σf) av s 0 0 (mm_A G)) (F0 m 16 ls []) := by
  have hx := F.1
  have hb := F.2.1
  have hml := F.2.2.1
  have hown := F.2.2.2.1
  have hts := F.2.2.2.2.1
  unfold g_X2_scans_16 at hf
  refine lv_iload_n hx hb dX2_scans_16 rfl (lv_at hl 2 rfl) ?_
  refine lv_aload_n hx hb dX2_scans_17 rfl (lv_at hl 0 rfl) ?_
  replace hf := evn_b1 hf
  obtain ⟨q1, e1, hf⟩ := hf
  refine mm_getA F hH mc_2 (k := 0) (by decide) (hts _ q1047) (fun _ h => h) e1 dX2_scans_18 ?_
  refine lv_sipush (v := 200) hx hb dX2_scans_21 (by decide) ?_
  refine lv_iload_n hx hb dX2_scans_24 rfl (lv_at hl 1 rfl) ?_
  refine lv_iadd hx hb dX2_scans_25 ?_
  replace hf := evn_b1 hf
  obtain ⟨v2, e2, hf⟩ := hf
  refine mm_iald F hH e2 dX2_scans_26 ?_
  refine lv_icmp_gt (tgt := 76) hx hb dX2_scans_27 (by decide) (fun c3 => ?_) (fun c3 => ?_)
  · rw [if_pos c3] at hf
    refine lv_iinc (v := x1 + (1 : Int32)) (lv' := [(1, .int (x1 + (1 : Int32))), (0, .ref h0), (2, .int x2)]) hx hb dX2_scans_76 hl (k := 1) rfl rfl (by decide) rfl (fun ls hl => ?_)
    refine lv_goto (tgt := 2) hx hb dX2_scans_79 (by decide) ?_
    rw [evn_l] at hf
    exact IH2 (x1 + (1 : Int32)) σ _ _ _ hH (lv_sub hl [1, 0] rfl) hf
  · rw [if_neg c3] at hf
    refine lv_aload_n hx hb dX2_scans_30 rfl (lv_at hl 0 rfl) ?_
    replace hf := evn_b1 hf
    obtain ⟨q4, e3, hf⟩ := hf
    refine mm_getA F hH mc_2 (k := 0) (by decide) (hts _ q1047) (fun _ h => h) e3 dX2_scans_31 ?_
    refine lv_iconst (v := 0) hx hb dX2_scans_34 (by decide) ?_
    refine lv_iload_n hx hb dX2_scans_35 rfl (lv_at hl 1 rfl) ?_
    refine lv_iadd hx hb dX2_scans_36 ?_
    replace hf := evn_b1 hf
    obtain ⟨v5, e4, hf⟩ := hf
    refine mm_iald F hH e4 dX2_scans_37 ?_
    refine lv_if_le (tgt := 76) hx hb dX2_scans_38 (by decide) (fun c6 => ?_) (fun c6 => ?_)
    · rw [if_pos c6] at hf
      refine lv_iinc (v := x1 + (1 : Int32)) (lv' := [(1, .int (x1 + (1 : Int32))), (0, .ref h0), (2, .int x2)]) hx hb dX2_scans_76 hl (k := 1) rfl rfl (by decide) rfl (fun ls hl => ?_)
      refine lv_goto (tgt := 2) hx hb dX2_scans_79 (by decide) ?_
      rw [evn_l] at hf
      exact IH2 (x1 + (1 : Int32)) σ _ _ _ hH (lv_sub hl [1, 0] rfl) hf
    · rw [if_neg c6] at hf
      refine lv_aload_n hx hb dX2_scans_41 rfl (lv_at hl 0 rfl) ?_
      replace hf := evn_b1 hf
      obtain ⟨q7, e5, hf⟩ := hf
      refine mm_getA F hH mc_2 (k := 8) (by decide) (hts _ q1055) (fun _ h => h) e5 dX2_scans_42 ?_
      refine lv_iload_n hx hb dX2_scans_45 rfl (lv_at hl 1 rfl) ?_
      replace hf := evn_b1 hf
      obtain ⟨v8, e6, hf⟩ := hf
      refine mm_zald F hH e6 dX2_scans_46 ?_
      refine lv_if_eq (tgt := 76) hx hb dX2_scans_47 (by decide) (fun c9 => ?_) (fun c9 => ?_)
      · rw [if_pos c9] at hf
        refine lv_iinc (v := x1 + (1 : Int32)) (lv' := [(1, .int (x1 + (1 : Int32))), (0, .ref h0), (2, .int x2)]) hx hb dX2_scans_76 hl (k := 1) rfl rfl (by decide) rfl (fun ls hl => ?_)
        refine lv_goto (tgt := 2) hx hb dX2_scans_79 (by decide) ?_
        rw [evn_l] at hf
        exact IH2 (x1 + (1 : Int32)) σ _ _ _ hH (lv_sub hl [1, 0] rfl) hf
      · rw [if_neg c9] at hf
        refine lv_aload_n hx hb dX2_scans_50 rfl (lv_at hl 0 rfl) ?_
        refine lv_aload_n hx hb dX2_scans_51 rfl (lv_at hl 0 rfl) ?_
        replace hf := evn_b1 hf
        obtain ⟨q10, e7, hf⟩ := hf
        refine mm_getA F hH mc_2 (k := 0) (by decide) (hts _ q1047) (fun _ h => h) e7 dX2_scans_52 ?_
        refine lv_sipush (v := 800) hx hb dX2_scans_55 (by decide) ?_
        refine lv_iload_n hx hb dX2_scans_58 rfl (lv_at hl 1 rfl) ?_
        refine lv_iadd hx hb dX2_scans_59 ?_
        refine lv_iload_n hx hb dX2_scans_60 rfl (lv_at hl 2 rfl) ?_
        refine lv_iadd hx hb dX2_scans_61 ?_
        replace hf := evn_b1 hf
        obtain ⟨v11, e8, hf⟩ := hf
        refine mm_iald F hH e8 dX2_scans_62 ?_
        replace hf := evn_b1 hf
        obtain ⟨u, e9, hf⟩ := hf
        obtain ⟨fs, ek⟩ := ck_i e9
        replace hf := evn_b1 hf
        obtain ⟨σ12, e10, hf⟩ := hf
        refine mm_cv (va_runV (As := [.int v11]) (rest := []) ⟨hx, hb, hml, hown, hts⟩ (m_X2_reach l G h0 v11 σ σ12 e10) (cwV 1 hts (lw_V q1215 q1217 qs45 q67 q1218) rfl rfl rfl (by decide +kernel) ⟨Nat.le_of_ble_eq_true rfl, Nat.le_of_ble_eq_true rfl⟩) (mm_preV F.2.2.2.2.2 hH (ci := 2) rfl ek) rfl rfl hl.1 rfl (lv_room (Nat.le_of_ble_eq_true rfl)) dX2_scans_63 ⟨Nat.le_of_ble_eq_true rfl, Nat.le_of_ble_eq_true rfl⟩) hH (fun H locs hH => ?_)
        refine lv_aload_n hx hb dX2_scans_66 rfl (lv_at hl 0 rfl) ?_
        replace hf := evn_b1 hf
        obtain ⟨u, e11, hf⟩ := hf
        obtain ⟨fs, ek⟩ := ck_i e11
        replace hf := evn_b1 hf
        obtain ⟨σ13, e12, hf⟩ := hf
        refine mm_cv (va_runV (As := []) (rest := []) ⟨hx, hb, hml, hown, hts⟩ (m_X2_drains l G h0 σ12 σ13 e12) (cwV 0 hts (lw_V q1219 q1221 qs46 q67 q1222) rfl rfl rfl (by decide +kernel) ⟨Nat.le_of_ble_eq_true rfl, Nat.le_of_ble_eq_true rfl⟩) (mm_preV F.2.2.2.2.2 hH (ci := 2) rfl ek) rfl rfl hl.1 rfl (lv_room (Nat.le_of_ble_eq_true rfl)) dX2_scans_67 ⟨Nat.le_of_ble_eq_true rfl, Nat.le_of_ble_eq_true rfl⟩) hH (fun H locs hH => ?_)
        refine lv_iinc (v := x2 + (1 : Int32)) (lv' := [(2, .int (x2 + (1 : Int32))), (0, .ref h0), (1, .int x1)]) hx hb dX2_scans_70 hl (k := 2) rfl rfl (by decide) rfl (fun ls hl => ?_)
        refine lv_goto (tgt := 16) hx hb dX2_scans_73 (by decide) ?_
        rw [evn_l] at hf
        exact IH16 x1 (x2 + (1 : Int32)) σ13 _ _ _ hH (lv_sub hl [1, 2, 0] rfl) hf
set_option maxHeartbeats 4000000 in
theorem w_X2_scans_0 {p : Program} {l : Launch} {e : Env} {s : State} {m : MethodId} {av : Array Value} {below : List Frame} {meth : Method} {c : Code} {G : mm_G} {σf : mm_M} {n : Nat} {h0 : Nat} (F : mm_F p s m av c RX2 cX2_scans 3 G) (hr : meth.sig.returnType = (Option.none : Option Jvm.ClassFile.FieldType)) (hlocks : meth.locks = false) (hname : meth.name = yX2_scans.name) (IH2 : ∀ (x1 : Int32) (σ : mm_M) (H : Heap) (locs : List Loc) (ls : Array Slot), mm_H G s σ H locs → lv_has ls 3 [(0, .ref h0), (1, .int x1)] → itn (s_X2_scans h0) n (.inl (x1, σ)) = some σf → W p l e rm_X2_scans s m av below meth c H locs 0 0 (MQ below (mm_Qv G σf) av s 0 0 (mm_A G)) (F0 m 2 ls [])) (IH16 : ∀ (x1 : Int32) (x2 : Int32) (σ : mm_M) (H : Heap) (locs : List Loc) (ls : Array Slot), mm_H G s σ H locs → lv_has ls 3 [(0, .ref h0), (1, .int x1), (2, .int x2)] → itn (s_X2_scans h0) n (.inr (x1, x2, σ)) = some σf → W p l e rm_X2_scans s m av below meth c H locs 0 0 (MQ below (mm_Qv G σf) av s 0 0 (mm_A G)) (F0 m 16 ls []))    (σ : mm_M) (hf : evn (s_X2_scans h0) n (g_X2_scans_0 h0 σ) = some σf) {H : Heap} {locs : List Loc} {ls : Array Slot} (hH : mm_H G s σ H locs) (hl : lv_has ls 3 [(0, .ref h0)]) : W p l e rm_X2_scans s m av below meth c H locs 0 0 (MQ below (mm_Qv G σf) av s 0 0 (mm_A G)) (F0 m 0 ls []) := by
  have hx := F.1
  have hb := F.2.1
  have hml := F.2.2.1
  have hown := F.2.2.2.1
  have hts := F.2.2.2.2.1
  unfold g_X2_scans_0 at hf
  refine lv_iconst (v := 0) hx hb dX2_scans_0 (by decide) ?_
  refine lv_istore_n (lv' := [(1, .int (0 : Int32)), (0, .ref h0)]) hx hb dX2_scans_1 rfl hl (by decide) rfl (fun ls hl => ?_)
  rw [evn_l] at hf
  exact IH2 (0 : Int32) σ _ _ _ hH (lv_sub hl [1, 0] rfl) hf
set_option maxHeartbeats 4000000 in
theorem l_X2_scans {p : Program} {l : Launch} {e : Env} {s : State} {m : MethodId} {av : Array Value} {below : List Frame} {meth : Method} {c : Code} {G : mm_G} {σf : mm_M} {h0 : Nat} (F : mm_F p s m av c RX2 cX2_scans 3 G) (hr : meth.sig.returnType = (Option.none : Option Jvm.ClassFile.FieldType)) (hlocks : meth.locks = false) (hname : meth.name = yX2_scans.name) : ∀ n : Nat, (∀ (x1 : Int32) (σ : mm_M) (H : Heap) (locs : List Loc) (ls : Array Slot), mm_H G s σ H locs → lv_has ls 3 [(0, .ref h0), (1, .int x1)] → itn (s_X2_scans h0) n (.inl (x1, σ)) = some σf → W p l e rm_X2_scans s m av below meth c H locs 0 0 (MQ below (mm_Qv G σf) av s 0 0 (mm_A G)) (F0 m 2 ls [])) ∧ (∀ (x1 : Int32) (x2 : Int32) (σ : mm_M) (H : Heap) (locs : List Loc) (ls : Array Slot), mm_H G s σ H locs → lv_has ls 3 [(0, .ref h0), (1, .int x1), (2, .int x2)] → itn (s_X2_scans h0) n (.inr (x1, x2, σ)) = some σf → W p l e rm_X2_scans s m av below meth c H locs 0 0 (MQ below (mm_Qv G σf) av s 0 0 (mm_A G)) (F0 m 16 ls [])) := by
  intro n
  induction n with
  | zero =>
    exact ⟨fun x1 σ H locs ls hH hl hf => (by cases hf), fun x1 x2 σ H locs ls hH hl hf => (by cases hf)⟩
  | succ n ih =>
    obtain ⟨IH2, IH16⟩ := ih
    refine ⟨?_, ?_⟩
    · intro x1 σ H locs ls hH hl hf
      rw [itn_s] at hf
      exact w_X2_scans_2 F hr hlocks hname IH2 IH16 x1 σ hf hH hl
    · intro x1 x2 σ H locs ls hH hl hf
      rw [itn_s] at hf
      exact w_X2_scans_16 F hr hlocks hname IH2 IH16 x1 x2 σ hf hH hl
set_option maxHeartbeats 4000000 in
theorem m_X2_scans (l : Launch) (G : mm_G) (h0 : Nat) (σ : mm_M) (σf : mm_M) (hf : f_X2_scans h0 σ = some σf) : Met l yX2_scans (ws_ yX2_scans cX2_scans 3 ((Option.none : Option Jvm.ClassFile.FieldType))) rm_X2_scans (mm_Pc G [.ref h0] σ) (mm_Qv G σf) 0 0 (mm_A G) := by
  refine mm_met (by decide) rfl rfl (by  exact Nat.le_of_ble_eq_true rfl) (fun p e s m below meth c ls F hH hr hlocks hname hl => ?_)
  have hl : lv_has ls 3 [(0, .ref h0)] := by  exact hl
  have F : mm_F p s m _ c RX2 cX2_scans 3 G := F
  unfold f_X2_scans at hf
  obtain ⟨n, hf⟩ := lgo_i hf
  have IH := l_X2_scans (l := l) (e := e) (below := below) (σf := σf) (h0 := h0) F hr hlocks hname n
  exact w_X2_scans_0 F hr hlocks hname IH.1 IH.2 σ hf hH (lv_sub hl [0] rfl)
/-! IslandHeapModel.marks()I -/
abbrev rm_X2_marks : Room := { frames := 5, cells := 0, slots := 0, locals := 110 }
set_option maxHeartbeats 4000000 in
theorem w_X2_marks_2 {p : Program} {l : Launch} {e : Env} {s : State} {m : MethodId} {av : Array Value} {below : List Frame} {meth : Method} {c : Code} {G : mm_G} {σf : mm_M} {rr : Int32} {n : Nat} {h0 : Nat} (F : mm_F p s m av c RX2 cX2_marks 2 G) (hr : meth.sig.returnType = (Option.some .int)) (hlocks : meth.locks = false) (hname : meth.name = yX2_marks.name) (IH2 : ∀ (x1 : Int32) (σ : mm_M) (H : Heap) (locs : List Loc) (ls : Array Slot), mm_H G s σ H locs → lv_has ls 2 [(0, .ref h0), (1, .int x1)] → itn (s_X2_marks h0) n (.inl (x1, σ)) = some (rr, σf) → W p l e rm_X2_marks s m av below meth c H locs 0 0 (MQ below (mm_Qi G rr σf) av s 0 0 (mm_A G)) (F0 m 2 ls [])) (IH39 : ∀ (x1 : Int32) (σ : mm_M) (H : Heap) (locs : List Loc) (ls : Array Slot), mm_H G s σ H locs → lv_has ls 2 [(0, .ref h0), (1, .int x1)] → itn (s_X2_marks h0) n (.inr (.inl (x1, σ))) = some (rr, σf) → W p l e rm_X2_marks s m av below meth c H locs 0 0 (MQ below (mm_Qi G rr σf) av s 0 0 (mm_A G)) (F0 m 39 ls [])) (IH71 : ∀ (x1 : Int32) (σ : mm_M) (H : Heap) (locs : List Loc) (ls : Array Slot), mm_H G s σ H locs → lv_has ls 2 [(0, .ref h0), (1, .int x1)] → itn (s_X2_marks h0) n (.inr (.inr (.inl (x1, σ)))) = some (rr, σf) → W p l e rm_X2_marks s m av below meth c H locs 0 0 (MQ below (mm_Qi G rr σf) av s 0 0 (mm_A G)) (F0 m 71 ls [])) (IH129 : ∀ (x1 : Int32) (σ : mm_M) (H : Heap) (locs : List Loc) (ls : Array Slot), mm_H G s σ H locs → lv_has ls 2 [(0, .ref h0), (1, .int x1)] → itn (s_X2_marks h0) n (.inr (.inr (.inr (x1, σ)))) = some (rr, σf) → W p l e rm_X2_marks s m av below meth c H locs 0 0 (MQ below (mm_Qi G rr σf) av s 0 0 (mm_A G)) (F0 m 129 ls []))  (x1 : Int32)  (σ : mm_M) (hf : evn (s_X2_marks h0) n (g_X2_marks_2 h0 x1 σ) = some (rr, σf)) {H : Heap} {locs : List Loc} {ls : Array Slot} (hH : mm_H G s σ H locs) (hl : lv_has ls 2 [(0, .ref h0), (1, .int x1)]) : W p l e rm_X2_marks s m av below meth c H locs 0 0 (MQ below (mm_Qi G rr σf) av s 0 0 (mm_A G)) (F0 m 2 ls []) := by
  have hx := F.1
  have hb := F.2.1
  have hml := F.2.2.1
  have hown := F.2.2.2.1
  have hts := F.2.2.2.2.1
  unfold g_X2_marks_2 at hf
  refine lv_iload_n hx hb dX2_marks_2 rfl (lv_at hl 1 rfl) ?_
  refine lv_sipush (v := 200) hx hb dX2_marks_3 (by decide) ?_
  refine lv_icmp_ge (tgt := 22) hx hb dX2_marks_6 (by decide) (fun c1 => ?_) (fun c1 => ?_)
  · rw [if_pos c1] at hf
    refine lv_aload_n hx hb dX2_marks_22 rfl (lv_at hl 0 rfl) ?_
    refine lv_iconst (v := 0) hx hb dX2_marks_23 (by decide) ?_
    replace hf := evn_b1 hf
    obtain ⟨σ2, e1, hf⟩ := hf
    refine mm_put F hH mc_2 (k := 10) (v := vI (0 : Int32)) (by decide) (hts _ q1057) (fun _ h => h) rfl rfl rfl e1 dX2_marks_24 (fun H locs hH => ?_)
    refine lv_aload_n hx hb dX2_marks_27 rfl (lv_at hl 0 rfl) ?_
    refine lv_iconst (v := 0) hx hb dX2_marks_28 (by decide) ?_
    replace hf := evn_b1 hf
    obtain ⟨σ3, e2, hf⟩ := hf
    refine mm_put F hH mc_2 (k := 11) (v := vI (0 : Int32)) (by decide) (hts _ q1058) (fun _ h => h) rfl rfl rfl e2 dX2_marks_29 (fun H locs hH => ?_)
    refine lv_aload_n hx hb dX2_marks_32 rfl (lv_at hl 0 rfl) ?_
    refine lv_iconst (v := 0) hx hb dX2_marks_33 (by decide) ?_
    replace hf := evn_b1 hf
    obtain ⟨σ4, e3, hf⟩ := hf
    refine mm_put F hH mc_2 (k := 12) (v := vI (0 : Int32)) (by decide) (hts _ q1059) (fun _ h => h) rfl rfl rfl e3 dX2_marks_34 (fun H locs hH => ?_)
    refine lv_iconst (v := 0) hx hb dX2_marks_37 (by decide) ?_
    refine lv_istore_n (lv' := [(1, .int (0 : Int32)), (0, .ref h0)]) hx hb dX2_marks_38 rfl hl (by decide) rfl (fun ls hl => ?_)
    rw [evn_l] at hf
    exact IH39 (0 : Int32) σ4 _ _ _ hH (lv_sub hl [1, 0] rfl) hf
  · rw [if_neg c1] at hf
    refine lv_aload_n hx hb dX2_marks_9 rfl (lv_at hl 0 rfl) ?_
    replace hf := evn_b1 hf
    obtain ⟨q5, e4, hf⟩ := hf
    refine mm_getA F hH mc_2 (k := 8) (by decide) (hts _ q1055) (fun _ h => h) e4 dX2_marks_10 ?_
    refine lv_iload_n hx hb dX2_marks_13 rfl (lv_at hl 1 rfl) ?_
    refine lv_iconst (v := 0) hx hb dX2_marks_14 (by decide) ?_
    replace hf := evn_b1 hf
    obtain ⟨σ6, e5, hf⟩ := hf
    refine mm_zast F hH e5 dX2_marks_15 (fun H locs hH => ?_)
    refine lv_iinc (v := x1 + (1 : Int32)) (lv' := [(1, .int (x1 + (1 : Int32))), (0, .ref h0)]) hx hb dX2_marks_16 hl (k := 1) rfl rfl (by decide) rfl (fun ls hl => ?_)
    refine lv_goto (tgt := 2) hx hb dX2_marks_19 (by decide) ?_
    rw [evn_l] at hf
    exact IH2 (x1 + (1 : Int32)) σ6 _ _ _ hH (lv_sub hl [1, 0] rfl) hf
set_option maxHeartbeats 4000000 in
theorem w_X2_marks_39 {p : Program} {l : Launch} {e : Env} {s : State} {m : MethodId} {av : Array Value} {below : List Frame} {meth : Method} {c : Code} {G : mm_G} {σf : mm_M} {rr : Int32} {n : Nat} {h0 : Nat} (F : mm_F p s m av c RX2 cX2_marks 2 G) (hr : meth.sig.returnType = (Option.some .int)) (hlocks : meth.locks = false) (hname : meth.name = yX2_marks.name) (IH2 : ∀ (x1 : Int32) (σ : mm_M) (H : Heap) (locs : List Loc) (ls : Array Slot), mm_H G s σ H locs → lv_has ls 2 [(0, .ref h0), (1, .int x1)] → itn (s_X2_marks h0) n (.inl (x1, σ)) = some (rr, σf) → W p l e rm_X2_marks s m av below meth c H locs 0 0 (MQ below (mm_Qi G rr σf) av s 0 0 (mm_A G)) (F0 m 2 ls [])) (IH39 : ∀ (x1 : Int32) (σ : mm_M) (H : Heap) (locs : List Loc) (ls : Array Slot), mm_H G s σ H locs → lv_has ls 2 [(0, .ref h0), (1, .int x1)] → itn (s_X2_marks h0) n (.inr (.inl (x1, σ))) = some (rr, σf) → W p l e rm_X2_marks s m av below meth c H locs 0 0 (MQ below (mm_Qi G rr σf) av s 0 0 (mm_A G)) (F0 m 39 ls [])) (IH71 : ∀ (x1 : Int32) (σ : mm_M) (H : Heap) (locs : List Loc) (ls : Array Slot), mm_H G s σ H locs → lv_has ls 2 [(0, .ref h0), (1, .int x1)] → itn (s_X2_marks h0) n (.inr (.inr (.inl (x1, σ)))) = some (rr, σf) → W p l e rm_X2_marks s m av below meth c H locs 0 0 (MQ below (mm_Qi G rr σf) av s 0 0 (mm_A G)) (F0 m 71 ls [])) (IH129 : ∀ (x1 : Int32) (σ : mm_M) (H : Heap) (locs : List Loc) (ls : Array Slot), mm_H G s σ H locs → lv_has ls 2 [(0, .ref h0), (1, .int x1)] → itn (s_X2_marks h0) n (.inr (.inr (.inr (x1, σ)))) = some (rr, σf) → W p l e rm_X2_marks s m av below meth c H locs 0 0 (MQ below (mm_Qi G rr σf) av s 0 0 (mm_A G)) (F0 m 129 ls []))  (x1 : Int32)  (σ : mm_M) (hf : evn (s_X2_marks h0) n (g_X2_marks_39 h0 x1 σ) = some (rr, σf)) {H : Heap} {locs : List Loc} {ls : Array Slot} (hH : mm_H G s σ H locs) (hl : lv_has ls 2 [(0, .ref h0), (1, .int x1)]) : W p l e rm_X2_marks s m av below meth c H locs 0 0 (MQ below (mm_Qi G rr σf) av s 0 0 (mm_A G)) (F0 m 39 ls []) := by
  have hx := F.1
  have hb := F.2.1
  have hml := F.2.2.1
  have hown := F.2.2.2.1
  have hts := F.2.2.2.2.1
  unfold g_X2_marks_39 at hf
  refine lv_iload_n hx hb dX2_marks_39 rfl (lv_at hl 1 rfl) ?_
  refine lv_bipush (v := 6) hx hb dX2_marks_40 (by decide) ?_
  refine lv_icmp_ge (tgt := 69) hx hb dX2_marks_42 (by decide) (fun c1 => ?_) (fun c1 => ?_)
  · rw [if_pos c1] at hf
    refine lv_iconst (v := 0) hx hb dX2_marks_69 (by decide) ?_
    refine lv_istore_n (lv' := [(1, .int (0 : Int32)), (0, .ref h0)]) hx hb dX2_marks_70 rfl hl (by decide) rfl (fun ls hl => ?_)
    rw [evn_l] at hf
    exact IH71 (0 : Int32) σ _ _ _ hH (lv_sub hl [1, 0] rfl) hf
  · rw [if_neg c1] at hf
    refine lv_aload_n hx hb dX2_marks_45 rfl (lv_at hl 0 rfl) ?_
    refine lv_aload_n hx hb dX2_marks_46 rfl (lv_at hl 0 rfl) ?_
    replace hf := evn_b1 hf
    obtain ⟨q2, e1, hf⟩ := hf
    refine mm_getA F hH mc_2 (k := 0) (by decide) (hts _ q1047) (fun _ h => h) e1 dX2_marks_47 ?_
    refine lv_sipush (v := 1200) hx hb dX2_marks_50 (by decide) ?_
    refine lv_iload_n hx hb dX2_marks_53 rfl (lv_at hl 1 rfl) ?_
    refine lv_iadd hx hb dX2_marks_54 ?_
    replace hf := evn_b1 hf
    obtain ⟨v3, e2, hf⟩ := hf
    refine mm_iald F hH e2 dX2_marks_55 ?_
    replace hf := evn_b1 hf
    obtain ⟨u, e3, hf⟩ := hf
    obtain ⟨fs, ek⟩ := ck_i e3
    replace hf := evn_b1 hf
    obtain ⟨σ4, e4, hf⟩ := hf
    refine mm_cv (va_runV (As := [.int v3]) (rest := []) ⟨hx, hb, hml, hown, hts⟩ (m_X2_reach l G h0 v3 σ σ4 e4) (cwV 1 hts (lw_V q1215 q1217 qs45 q67 q1218) rfl rfl rfl (by decide +kernel) ⟨Nat.le_of_ble_eq_true rfl, Nat.le_of_ble_eq_true rfl⟩) (mm_preV F.2.2.2.2.2 hH (ci := 2) rfl ek) rfl rfl hl.1 rfl (lv_room (Nat.le_of_ble_eq_true rfl)) dX2_marks_56 ⟨Nat.le_of_ble_eq_true rfl, Nat.le_of_ble_eq_true rfl⟩) hH (fun H locs hH => ?_)
    refine lv_aload_n hx hb dX2_marks_59 rfl (lv_at hl 0 rfl) ?_
    replace hf := evn_b1 hf
    obtain ⟨u, e5, hf⟩ := hf
    obtain ⟨fs, ek⟩ := ck_i e5
    replace hf := evn_b1 hf
    obtain ⟨σ5, e6, hf⟩ := hf
    refine mm_cv (va_runV (As := []) (rest := []) ⟨hx, hb, hml, hown, hts⟩ (m_X2_drains l G h0 σ4 σ5 e6) (cwV 0 hts (lw_V q1219 q1221 qs46 q67 q1222) rfl rfl rfl (by decide +kernel) ⟨Nat.le_of_ble_eq_true rfl, Nat.le_of_ble_eq_true rfl⟩) (mm_preV F.2.2.2.2.2 hH (ci := 2) rfl ek) rfl rfl hl.1 rfl (lv_room (Nat.le_of_ble_eq_true rfl)) dX2_marks_60 ⟨Nat.le_of_ble_eq_true rfl, Nat.le_of_ble_eq_true rfl⟩) hH (fun H locs hH => ?_)
    refine lv_iinc (v := x1 + (1 : Int32)) (lv' := [(1, .int (x1 + (1 : Int32))), (0, .ref h0)]) hx hb dX2_marks_63 hl (k := 1) rfl rfl (by decide) rfl (fun ls hl => ?_)
    refine lv_goto (tgt := 39) hx hb dX2_marks_66 (by decide) ?_
    rw [evn_l] at hf
    exact IH39 (x1 + (1 : Int32)) σ5 _ _ _ hH (lv_sub hl [1, 0] rfl) hf
set_option maxHeartbeats 4000000 in
theorem w_X2_marks_71 {p : Program} {l : Launch} {e : Env} {s : State} {m : MethodId} {av : Array Value} {below : List Frame} {meth : Method} {c : Code} {G : mm_G} {σf : mm_M} {rr : Int32} {n : Nat} {h0 : Nat} (F : mm_F p s m av c RX2 cX2_marks 2 G) (hr : meth.sig.returnType = (Option.some .int)) (hlocks : meth.locks = false) (hname : meth.name = yX2_marks.name) (IH2 : ∀ (x1 : Int32) (σ : mm_M) (H : Heap) (locs : List Loc) (ls : Array Slot), mm_H G s σ H locs → lv_has ls 2 [(0, .ref h0), (1, .int x1)] → itn (s_X2_marks h0) n (.inl (x1, σ)) = some (rr, σf) → W p l e rm_X2_marks s m av below meth c H locs 0 0 (MQ below (mm_Qi G rr σf) av s 0 0 (mm_A G)) (F0 m 2 ls [])) (IH39 : ∀ (x1 : Int32) (σ : mm_M) (H : Heap) (locs : List Loc) (ls : Array Slot), mm_H G s σ H locs → lv_has ls 2 [(0, .ref h0), (1, .int x1)] → itn (s_X2_marks h0) n (.inr (.inl (x1, σ))) = some (rr, σf) → W p l e rm_X2_marks s m av below meth c H locs 0 0 (MQ below (mm_Qi G rr σf) av s 0 0 (mm_A G)) (F0 m 39 ls [])) (IH71 : ∀ (x1 : Int32) (σ : mm_M) (H : Heap) (locs : List Loc) (ls : Array Slot), mm_H G s σ H locs → lv_has ls 2 [(0, .ref h0), (1, .int x1)] → itn (s_X2_marks h0) n (.inr (.inr (.inl (x1, σ)))) = some (rr, σf) → W p l e rm_X2_marks s m av below meth c H locs 0 0 (MQ below (mm_Qi G rr σf) av s 0 0 (mm_A G)) (F0 m 71 ls [])) (IH129 : ∀ (x1 : Int32) (σ : mm_M) (H : Heap) (locs : List Loc) (ls : Array Slot), mm_H G s σ H locs → lv_has ls 2 [(0, .ref h0), (1, .int x1)] → itn (s_X2_marks h0) n (.inr (.inr (.inr (x1, σ)))) = some (rr, σf) → W p l e rm_X2_marks s m av below meth c H locs 0 0 (MQ below (mm_Qi G rr σf) av s 0 0 (mm_A G)) (F0 m 129 ls []))  (x1 : Int32)  (σ : mm_M) (hf : evn (s_X2_marks h0) n (g_X2_marks_71 h0 x1 σ) = some (rr, σf)) {H : Heap} {locs : List Loc} {ls : Array Slot} (hH : mm_H G s σ H locs) (hl : lv_has ls 2 [(0, .ref h0), (1, .int x1)]) : W p l e rm_X2_marks s m av below meth c H locs 0 0 (MQ below (mm_Qi G rr σf) av s 0 0 (mm_A G)) (F0 m 71 ls []) := by
  have hx := F.1
  have hb := F.2.1
  have hml := F.2.2.1
  have hown := F.2.2.2.1
  have hts := F.2.2.2.2.1
  unfold g_X2_marks_71 at hf
  refine lv_iload_n hx hb dX2_marks_71 rfl (lv_at hl 1 rfl) ?_
  refine lv_aload_n hx hb dX2_marks_72 rfl (lv_at hl 0 rfl) ?_
  replace hf := evn_b1 hf
  obtain ⟨q1, e1, hf⟩ := hf
  refine mm_getA F hH mc_2 (k := 0) (by decide) (hts _ q1047) (fun _ h => h) e1 dX2_marks_73 ?_
  refine lv_sipush (v := 1216) hx hb dX2_marks_76 (by decide) ?_
  replace hf := evn_b1 hf
  obtain ⟨v2, e2, hf⟩ := hf
  refine mm_iald F hH e2 dX2_marks_79 ?_
  refine lv_icmp_ge (tgt := 127) hx hb dX2_marks_80 (by decide) (fun c3 => ?_) (fun c3 => ?_)
  · rw [if_pos c3] at hf
    refine lv_iconst (v := 0) hx hb dX2_marks_127 (by decide) ?_
    refine lv_istore_n (lv' := [(1, .int (0 : Int32)), (0, .ref h0)]) hx hb dX2_marks_128 rfl hl (by decide) rfl (fun ls hl => ?_)
    rw [evn_l] at hf
    exact IH129 (0 : Int32) σ _ _ _ hH (lv_sub hl [1, 0] rfl) hf
  · rw [if_neg c3] at hf
    refine lv_aload_n hx hb dX2_marks_83 rfl (lv_at hl 0 rfl) ?_
    refine lv_aload_n hx hb dX2_marks_84 rfl (lv_at hl 0 rfl) ?_
    replace hf := evn_b1 hf
    obtain ⟨q4, e3, hf⟩ := hf
    refine mm_getA F hH mc_2 (k := 0) (by decide) (hts _ q1047) (fun _ h => h) e3 dX2_marks_85 ?_
    refine lv_iconst (v := 0) hx hb dX2_marks_88 (by decide) ?_
    refine lv_iload_n hx hb dX2_marks_89 rfl (lv_at hl 1 rfl) ?_
    refine lv_iadd hx hb dX2_marks_90 ?_
    replace hf := evn_b1 hf
    obtain ⟨v5, e4, hf⟩ := hf
    refine mm_iald F hH e4 dX2_marks_91 ?_
    refine lv_if_le (tgt := 113) hx hb dX2_marks_92 (by decide) (fun c6 => ?_) (fun c6 => ?_)
    · rw [if_pos c6] at hf
      refine lv_iconst (v := (-1)) hx hb dX2_marks_113 (by decide) ?_
      replace hf := evn_b1 hf
      obtain ⟨u, e5, hf⟩ := hf
      obtain ⟨fs, ek⟩ := ck_i e5
      replace hf := evn_b1 hf
      obtain ⟨σ7, e6, hf⟩ := hf
      refine mm_cv (va_runV (As := [.int (-1 : Int32)]) (rest := []) ⟨hx, hb, hml, hown, hts⟩ (m_X2_reach l G h0 (-1 : Int32) σ σ7 e6) (cwV 1 hts (lw_V q1215 q1217 qs45 q67 q1218) rfl rfl rfl (by decide +kernel) ⟨Nat.le_of_ble_eq_true rfl, Nat.le_of_ble_eq_true rfl⟩) (mm_preV F.2.2.2.2.2 hH (ci := 2) rfl ek) rfl rfl hl.1 rfl (lv_room (Nat.le_of_ble_eq_true rfl)) dX2_marks_114 ⟨Nat.le_of_ble_eq_true rfl, Nat.le_of_ble_eq_true rfl⟩) hH (fun H locs hH => ?_)
      refine lv_aload_n hx hb dX2_marks_117 rfl (lv_at hl 0 rfl) ?_
      replace hf := evn_b1 hf
      obtain ⟨u, e7, hf⟩ := hf
      obtain ⟨fs, ek⟩ := ck_i e7
      replace hf := evn_b1 hf
      obtain ⟨σ8, e8, hf⟩ := hf
      refine mm_cv (va_runV (As := []) (rest := []) ⟨hx, hb, hml, hown, hts⟩ (m_X2_drains l G h0 σ7 σ8 e8) (cwV 0 hts (lw_V q1219 q1221 qs46 q67 q1222) rfl rfl rfl (by decide +kernel) ⟨Nat.le_of_ble_eq_true rfl, Nat.le_of_ble_eq_true rfl⟩) (mm_preV F.2.2.2.2.2 hH (ci := 2) rfl ek) rfl rfl hl.1 rfl (lv_room (Nat.le_of_ble_eq_true rfl)) dX2_marks_118 ⟨Nat.le_of_ble_eq_true rfl, Nat.le_of_ble_eq_true rfl⟩) hH (fun H locs hH => ?_)
      refine lv_iinc (v := x1 + (1 : Int32)) (lv' := [(1, .int (x1 + (1 : Int32))), (0, .ref h0)]) hx hb dX2_marks_121 hl (k := 1) rfl rfl (by decide) rfl (fun ls hl => ?_)
      refine lv_goto (tgt := 71) hx hb dX2_marks_124 (by decide) ?_
      rw [evn_l] at hf
      exact IH71 (x1 + (1 : Int32)) σ8 _ _ _ hH (lv_sub hl [1, 0] rfl) hf
    · rw [if_neg c6] at hf
      refine lv_aload_n hx hb dX2_marks_95 rfl (lv_at hl 0 rfl) ?_
      replace hf := evn_b1 hf
      obtain ⟨q9, e9, hf⟩ := hf
      refine mm_getA F hH mc_2 (k := 0) (by decide) (hts _ q1047) (fun _ h => h) e9 dX2_marks_96 ?_
      refine lv_sipush (v := 400) hx hb dX2_marks_99 (by decide) ?_
      refine lv_iload_n hx hb dX2_marks_102 rfl (lv_at hl 1 rfl) ?_
      refine lv_iadd hx hb dX2_marks_103 ?_
      replace hf := evn_b1 hf
      obtain ⟨v10, e10, hf⟩ := hf
      refine mm_iald F hH e10 dX2_marks_104 ?_
      refine lv_iconst (v := 1) hx hb dX2_marks_105 (by decide) ?_
      refine lv_icmp_ne (tgt := 113) hx hb dX2_marks_106 (by decide) (fun c11 => ?_) (fun c11 => ?_)
      · rw [if_neg c11] at hf
        refine lv_iconst (v := (-1)) hx hb dX2_marks_113 (by decide) ?_
        replace hf := evn_b1 hf
        obtain ⟨u, e11, hf⟩ := hf
        obtain ⟨fs, ek⟩ := ck_i e11
        replace hf := evn_b1 hf
        obtain ⟨σ12, e12, hf⟩ := hf
        refine mm_cv (va_runV (As := [.int (-1 : Int32)]) (rest := []) ⟨hx, hb, hml, hown, hts⟩ (m_X2_reach l G h0 (-1 : Int32) σ σ12 e12) (cwV 1 hts (lw_V q1215 q1217 qs45 q67 q1218) rfl rfl rfl (by decide +kernel) ⟨Nat.le_of_ble_eq_true rfl, Nat.le_of_ble_eq_true rfl⟩) (mm_preV F.2.2.2.2.2 hH (ci := 2) rfl ek) rfl rfl hl.1 rfl (lv_room (Nat.le_of_ble_eq_true rfl)) dX2_marks_114 ⟨Nat.le_of_ble_eq_true rfl, Nat.le_of_ble_eq_true rfl⟩) hH (fun H locs hH => ?_)
        refine lv_aload_n hx hb dX2_marks_117 rfl (lv_at hl 0 rfl) ?_
        replace hf := evn_b1 hf
        obtain ⟨u, e13, hf⟩ := hf
        obtain ⟨fs, ek⟩ := ck_i e13
        replace hf := evn_b1 hf
        obtain ⟨σ13, e14, hf⟩ := hf
        refine mm_cv (va_runV (As := []) (rest := []) ⟨hx, hb, hml, hown, hts⟩ (m_X2_drains l G h0 σ12 σ13 e14) (cwV 0 hts (lw_V q1219 q1221 qs46 q67 q1222) rfl rfl rfl (by decide +kernel) ⟨Nat.le_of_ble_eq_true rfl, Nat.le_of_ble_eq_true rfl⟩) (mm_preV F.2.2.2.2.2 hH (ci := 2) rfl ek) rfl rfl hl.1 rfl (lv_room (Nat.le_of_ble_eq_true rfl)) dX2_marks_118 ⟨Nat.le_of_ble_eq_true rfl, Nat.le_of_ble_eq_true rfl⟩) hH (fun H locs hH => ?_)
        refine lv_iinc (v := x1 + (1 : Int32)) (lv' := [(1, .int (x1 + (1 : Int32))), (0, .ref h0)]) hx hb dX2_marks_121 hl (k := 1) rfl rfl (by decide) rfl (fun ls hl => ?_)
        refine lv_goto (tgt := 71) hx hb dX2_marks_124 (by decide) ?_
        rw [evn_l] at hf
        exact IH71 (x1 + (1 : Int32)) σ13 _ _ _ hH (lv_sub hl [1, 0] rfl) hf
      · rw [if_pos c11] at hf
        refine lv_iload_n hx hb dX2_marks_109 rfl (lv_at hl 1 rfl) ?_
        refine lv_goto (tgt := 114) hx hb dX2_marks_110 (by decide) ?_
        replace hf := evn_b1 hf
        obtain ⟨u, e15, hf⟩ := hf
        obtain ⟨fs, ek⟩ := ck_i e15
        replace hf := evn_b1 hf
        obtain ⟨σ14, e16, hf⟩ := hf
        refine mm_cv (va_runV (As := [.int x1]) (rest := []) ⟨hx, hb, hml, hown, hts⟩ (m_X2_reach l G h0 x1 σ σ14 e16) (cwV 1 hts (lw_V q1215 q1217 qs45 q67 q1218) rfl rfl rfl (by decide +kernel) ⟨Nat.le_of_ble_eq_true rfl, Nat.le_of_ble_eq_true rfl⟩) (mm_preV F.2.2.2.2.2 hH (ci := 2) rfl ek) rfl rfl hl.1 rfl (lv_room (Nat.le_of_ble_eq_true rfl)) dX2_marks_114 ⟨Nat.le_of_ble_eq_true rfl, Nat.le_of_ble_eq_true rfl⟩) hH (fun H locs hH => ?_)
        refine lv_aload_n hx hb dX2_marks_117 rfl (lv_at hl 0 rfl) ?_
        replace hf := evn_b1 hf
        obtain ⟨u, e17, hf⟩ := hf
        obtain ⟨fs, ek⟩ := ck_i e17
        replace hf := evn_b1 hf
        obtain ⟨σ15, e18, hf⟩ := hf
        refine mm_cv (va_runV (As := []) (rest := []) ⟨hx, hb, hml, hown, hts⟩ (m_X2_drains l G h0 σ14 σ15 e18) (cwV 0 hts (lw_V q1219 q1221 qs46 q67 q1222) rfl rfl rfl (by decide +kernel) ⟨Nat.le_of_ble_eq_true rfl, Nat.le_of_ble_eq_true rfl⟩) (mm_preV F.2.2.2.2.2 hH (ci := 2) rfl ek) rfl rfl hl.1 rfl (lv_room (Nat.le_of_ble_eq_true rfl)) dX2_marks_118 ⟨Nat.le_of_ble_eq_true rfl, Nat.le_of_ble_eq_true rfl⟩) hH (fun H locs hH => ?_)
        refine lv_iinc (v := x1 + (1 : Int32)) (lv' := [(1, .int (x1 + (1 : Int32))), (0, .ref h0)]) hx hb dX2_marks_121 hl (k := 1) rfl rfl (by decide) rfl (fun ls hl => ?_)
        refine lv_goto (tgt := 71) hx hb dX2_marks_124 (by decide) ?_
        rw [evn_l] at hf
        exact IH71 (x1 + (1 : Int32)) σ15 _ _ _ hH (lv_sub hl [1, 0] rfl) hf
set_option maxHeartbeats 4000000 in
theorem w_X2_marks_129 {p : Program} {l : Launch} {e : Env} {s : State} {m : MethodId} {av : Array Value} {below : List Frame} {meth : Method} {c : Code} {G : mm_G} {σf : mm_M} {rr : Int32} {n : Nat} {h0 : Nat} (F : mm_F p s m av c RX2 cX2_marks 2 G) (hr : meth.sig.returnType = (Option.some .int)) (hlocks : meth.locks = false) (hname : meth.name = yX2_marks.name) (IH2 : ∀ (x1 : Int32) (σ : mm_M) (H : Heap) (locs : List Loc) (ls : Array Slot), mm_H G s σ H locs → lv_has ls 2 [(0, .ref h0), (1, .int x1)] → itn (s_X2_marks h0) n (.inl (x1, σ)) = some (rr, σf) → W p l e rm_X2_marks s m av below meth c H locs 0 0 (MQ below (mm_Qi G rr σf) av s 0 0 (mm_A G)) (F0 m 2 ls [])) (IH39 : ∀ (x1 : Int32) (σ : mm_M) (H : Heap) (locs : List Loc) (ls : Array Slot), mm_H G s σ H locs → lv_has ls 2 [(0, .ref h0), (1, .int x1)] → itn (s_X2_marks h0) n (.inr (.inl (x1, σ))) = some (rr, σf) → W p l e rm_X2_marks s m av below meth c H locs 0 0 (MQ below (mm_Qi G rr σf) av s 0 0 (mm_A G)) (F0 m 39 ls [])) (IH71 : ∀ (x1 : Int32) (σ : mm_M) (H : Heap) (locs : List Loc) (ls : Array Slot), mm_H G s σ H locs → lv_has ls 2 [(0, .ref h0), (1, .int x1)] → itn (s_X2_marks h0) n (.inr (.inr (.inl (x1, σ)))) = some (rr, σf) → W p l e rm_X2_marks s m av below meth c H locs 0 0 (MQ below (mm_Qi G rr σf) av s 0 0 (mm_A G)) (F0 m 71 ls [])) (IH129 : ∀ (x1 : Int32) (σ : mm_M) (H : Heap) (locs : List Loc) (ls : Array Slot), mm_H G s σ H locs → lv_has ls 2 [(0, .ref h0), (1, .int x1)] → itn (s_X2_marks h0) n (.inr (.inr (.inr (x1, σ)))) = some (rr, σf) → W p l e rm_X2_marks s m av below meth c H locs 0 0 (MQ below (mm_Qi G rr σf) av s 0 0 (mm_A G)) (F0 m 129 ls []))  (x1 : Int32)  (σ : mm_M) (hf : evn (s_X2_marks h0) n (g_X2_marks_129 h0 x1 σ) = some (rr, σf)) {H : Heap} {locs : List Loc} {ls : Array Slot} (hH : mm_H G s σ H locs) (hl : lv_has ls 2 [(0, .ref h0), (1, .int x1)]) : W p l e rm_X2_marks s m av below meth c H locs 0 0 (MQ below (mm_Qi G rr σf) av s 0 0 (mm_A G)) (F0 m 129 ls []) := by
  have hx := F.1
  have hb := F.2.1
  have hml := F.2.2.1
  have hown := F.2.2.2.1
  have hts := F.2.2.2.2.1
  unfold g_X2_marks_129 at hf
  refine lv_aload_n hx hb dX2_marks_129 rfl (lv_at hl 0 rfl) ?_
  replace hf := evn_b1 hf
  obtain ⟨v1, e1, hf⟩ := hf
  refine mm_getI F hH mc_2 (k := 12) (by decide) (hts _ q1059) (fun _ h => h) e1 dX2_marks_130 ?_
  refine lv_if_eq (tgt := 151) hx hb dX2_marks_133 (by decide) (fun c2 => ?_) (fun c2 => ?_)
  · rw [if_pos c2] at hf
    refine lv_iload_n hx hb dX2_marks_151 rfl (lv_at hl 1 rfl) ?_
    rw [evn_r] at hf
    obtain ⟨h1, h2⟩ := Prod.mk.inj (Option.some.inj hf)
    subst h1
    subst h2
    exact mm_reti F hH hr hlocks rfl rfl dX2_marks_152
  · rw [if_neg c2] at hf
    refine lv_aload_n hx hb dX2_marks_136 rfl (lv_at hl 0 rfl) ?_
    refine lv_iconst (v := 0) hx hb dX2_marks_137 (by decide) ?_
    replace hf := evn_b1 hf
    obtain ⟨σ3, e2, hf⟩ := hf
    refine mm_put F hH mc_2 (k := 12) (v := vI (0 : Int32)) (by decide) (hts _ q1059) (fun _ h => h) rfl rfl rfl e2 dX2_marks_138 (fun H locs hH => ?_)
    refine lv_iinc (v := x1 + (1 : Int32)) (lv' := [(1, .int (x1 + (1 : Int32))), (0, .ref h0)]) hx hb dX2_marks_141 hl (k := 1) rfl rfl (by decide) rfl (fun ls hl => ?_)
    refine lv_aload_n hx hb dX2_marks_144 rfl (lv_at hl 1 rfl) ?_
    replace hf := evn_b1 hf
    obtain ⟨u, e3, hf⟩ := hf
    obtain ⟨fs, ek⟩ := ck_i e3
    replace hf := evn_b1 hf
    obtain ⟨σ4, e4, hf⟩ := hf
    refine mm_cv (va_runV (As := []) (rest := []) ⟨hx, hb, hml, hown, hts⟩ (m_X2_scans l G h0 σ3 σ4 e4) (cwV 0 hts (lw_V q1223 q1225 qs47 q67 q1226) rfl rfl rfl (by decide +kernel) ⟨Nat.le_of_ble_eq_true rfl, Nat.le_of_ble_eq_true rfl⟩) (mm_preV F.2.2.2.2.2 hH (ci := 2) rfl ek) rfl rfl hl.1 rfl (lv_room (Nat.le_of_ble_eq_true rfl)) dX2_marks_145 ⟨Nat.le_of_ble_eq_true rfl, Nat.le_of_ble_eq_true rfl⟩) hH (fun H locs hH => ?_)
    refine lv_goto (tgt := 129) hx hb dX2_marks_148 (by decide) ?_
    rw [evn_l] at hf
    exact IH129 (x1 + (1 : Int32)) σ4 _ _ _ hH (lv_sub hl [1, 0] rfl) hf
set_option maxHeartbeats 4000000 in
theorem w_X2_marks_0 {p : Program} {l : Launch} {e : Env} {s : State} {m : MethodId} {av : Array Value} {below : List Frame} {meth : Method} {c : Code} {G : mm_G} {σf : mm_M} {rr : Int32} {n : Nat} {h0 : Nat} (F : mm_F p s m av c RX2 cX2_marks 2 G) (hr : meth.sig.returnType = (Option.some .int)) (hlocks : meth.locks = false) (hname : meth.name = yX2_marks.name) (IH2 : ∀ (x1 : Int32) (σ : mm_M) (H : Heap) (locs : List Loc) (ls : Array Slot), mm_H G s σ H locs → lv_has ls 2 [(0, .ref h0), (1, .int x1)] → itn (s_X2_marks h0) n (.inl (x1, σ)) = some (rr, σf) → W p l e rm_X2_marks s m av below meth c H locs 0 0 (MQ below (mm_Qi G rr σf) av s 0 0 (mm_A G)) (F0 m 2 ls [])) (IH39 : ∀ (x1 : Int32) (σ : mm_M) (H : Heap) (locs : List Loc) (ls : Array Slot), mm_H G s σ H locs → lv_has ls 2 [(0, .ref h0), (1, .int x1)] → itn (s_X2_marks h0) n (.inr (.inl (x1, σ))) = some (rr, σf) → W p l e rm_X2_marks s m av below meth c H locs 0 0 (MQ below (mm_Qi G rr σf) av s 0 0 (mm_A G)) (F0 m 39 ls [])) (IH71 : ∀ (x1 : Int32) (σ : mm_M) (H : Heap) (locs : List Loc) (ls : Array Slot), mm_H G s σ H locs → lv_has ls 2 [(0, .ref h0), (1, .int x1)] → itn (s_X2_marks h0) n (.inr (.inr (.inl (x1, σ)))) = some (rr, σf) → W p l e rm_X2_marks s m av below meth c H locs 0 0 (MQ below (mm_Qi G rr σf) av s 0 0 (mm_A G)) (F0 m 71 ls [])) (IH129 : ∀ (x1 : Int32) (σ : mm_M) (H : Heap) (locs : List Loc) (ls : Array Slot), mm_H G s σ H locs → lv_has ls 2 [(0, .ref h0), (1, .int x1)] → itn (s_X2_marks h0) n (.inr (.inr (.inr (x1, σ)))) = some (rr, σf) → W p l e rm_X2_marks s m av below meth c H locs 0 0 (MQ below (mm_Qi G rr σf) av s 0 0 (mm_A G)) (F0 m 129 ls []))    (σ : mm_M) (hf : evn (s_X2_marks h0) n (g_X2_marks_0 h0 σ) = some (rr, σf)) {H : Heap} {locs : List Loc} {ls : Array Slot} (hH : mm_H G s σ H locs) (hl : lv_has ls 2 [(0, .ref h0)]) : W p l e rm_X2_marks s m av below meth c H locs 0 0 (MQ below (mm_Qi G rr σf) av s 0 0 (mm_A G)) (F0 m 0 ls []) := by
  have hx := F.1
  have hb := F.2.1
  have hml := F.2.2.1
  have hown := F.2.2.2.1
  have hts := F.2.2.2.2.1
  unfold g_X2_marks_0 at hf
  refine lv_iconst (v := 0) hx hb dX2_marks_0 (by decide) ?_
  refine lv_istore_n (lv' := [(1, .int (0 : Int32)), (0, .ref h0)]) hx hb dX2_marks_1 rfl hl (by decide) rfl (fun ls hl => ?_)
  rw [evn_l] at hf
  exact IH2 (0 : Int32) σ _ _ _ hH (lv_sub hl [1, 0] rfl) hf
set_option maxHeartbeats 4000000 in
theorem l_X2_marks {p : Program} {l : Launch} {e : Env} {s : State} {m : MethodId} {av : Array Value} {below : List Frame} {meth : Method} {c : Code} {G : mm_G} {σf : mm_M} {rr : Int32} {h0 : Nat} (F : mm_F p s m av c RX2 cX2_marks 2 G) (hr : meth.sig.returnType = (Option.some .int)) (hlocks : meth.locks = false) (hname : meth.name = yX2_marks.name) : ∀ n : Nat, (∀ (x1 : Int32) (σ : mm_M) (H : Heap) (locs : List Loc) (ls : Array Slot), mm_H G s σ H locs → lv_has ls 2 [(0, .ref h0), (1, .int x1)] → itn (s_X2_marks h0) n (.inl (x1, σ)) = some (rr, σf) → W p l e rm_X2_marks s m av below meth c H locs 0 0 (MQ below (mm_Qi G rr σf) av s 0 0 (mm_A G)) (F0 m 2 ls [])) ∧ (∀ (x1 : Int32) (σ : mm_M) (H : Heap) (locs : List Loc) (ls : Array Slot), mm_H G s σ H locs → lv_has ls 2 [(0, .ref h0), (1, .int x1)] → itn (s_X2_marks h0) n (.inr (.inl (x1, σ))) = some (rr, σf) → W p l e rm_X2_marks s m av below meth c H locs 0 0 (MQ below (mm_Qi G rr σf) av s 0 0 (mm_A G)) (F0 m 39 ls [])) ∧ (∀ (x1 : Int32) (σ : mm_M) (H : Heap) (locs : List Loc) (ls : Array Slot), mm_H G s σ H locs → lv_has ls 2 [(0, .ref h0), (1, .int x1)] → itn (s_X2_marks h0) n (.inr (.inr (.inl (x1, σ)))) = some (rr, σf) → W p l e rm_X2_marks s m av below meth c H locs 0 0 (MQ below (mm_Qi G rr σf) av s 0 0 (mm_A G)) (F0 m 71 ls [])) ∧ (∀ (x1 : Int32) (σ : mm_M) (H : Heap) (locs : List Loc) (ls : Array Slot), mm_H G s σ H locs → lv_has ls 2 [(0, .ref h0), (1, .int x1)] → itn (s_X2_marks h0) n (.inr (.inr (.inr (x1, σ)))) = some (rr, σf) → W p l e rm_X2_marks s m av below meth c H locs 0 0 (MQ below (mm_Qi G rr σf) av s 0 0 (mm_A G)) (F0 m 129 ls [])) := by
  intro n
  induction n with
  | zero =>
    exact ⟨fun x1 σ H locs ls hH hl hf => (by cases hf), fun x1 σ H locs ls hH hl hf => (by cases hf), fun x1 σ H locs ls hH hl hf => (by cases hf), fun x1 σ H locs ls hH hl hf => (by cases hf)⟩
  | succ n ih =>
    obtain ⟨IH2, IH39, IH71, IH129⟩ := ih
    refine ⟨?_, ?_, ?_, ?_⟩
    · intro x1 σ H locs ls hH hl hf
      rw [itn_s] at hf
      exact w_X2_marks_2 F hr hlocks hname IH2 IH39 IH71 IH129 x1 σ hf hH hl
    · intro x1 σ H locs ls hH hl hf
      rw [itn_s] at hf
      exact w_X2_marks_39 F hr hlocks hname IH2 IH39 IH71 IH129 x1 σ hf hH hl
    · intro x1 σ H locs ls hH hl hf
      rw [itn_s] at hf
      exact w_X2_marks_71 F hr hlocks hname IH2 IH39 IH71 IH129 x1 σ hf hH hl
    · intro x1 σ H locs ls hH hl hf
      rw [itn_s] at hf
      exact w_X2_marks_129 F hr hlocks hname IH2 IH39 IH71 IH129 x1 σ hf hH hl
set_option maxHeartbeats 4000000 in
theorem m_X2_marks (l : Launch) (G : mm_G) (h0 : Nat) (σ : mm_M) (σf : mm_M) (rr : Int32) (hf : f_X2_marks h0 σ = some (rr, σf)) : Met l yX2_marks (ws_ yX2_marks cX2_marks 2 ((Option.some .int))) rm_X2_marks (mm_Pc G [.ref h0] σ) (mm_Qi G rr σf) 0 0 (mm_A G) := by
  refine mm_met (by decide) rfl rfl (by  exact Nat.le_of_ble_eq_true rfl) (fun p e s m below meth c ls F hH hr hlocks hname hl => ?_)
  have hl : lv_has ls 2 [(0, .ref h0)] := by  exact hl
  have F : mm_F p s m _ c RX2 cX2_marks 2 G := F
  unfold f_X2_marks at hf
  obtain ⟨n, hf⟩ := lgo_i hf
  have IH := l_X2_marks (l := l) (e := e) (below := below) (rr := rr) (σf := σf) (h0 := h0) F hr hlocks hname n
  exact w_X2_marks_0 F hr hlocks hname IH.1 IH.2.1 IH.2.2.1 IH.2.2.2 σ hf hH (lv_sub hl [0] rfl)
/-! IslandHeapModel.gone(I)I -/
abbrev rm_X2_gone : Room := { frames := 0, cells := 0, slots := 0, locals := 0 }
set_option maxHeartbeats 4000000 in
theorem m_X2_gone (l : Launch) (G : mm_G) (h0 : Nat) (x1 : Int32) (σ : mm_M) (rr : Int32) (hf : f_X2_gone h0 x1 σ = some rr) : Met l yX2_gone (ws_ yX2_gone cX2_gone 2 ((Option.some .int))) rm_X2_gone (mm_Pc G [.ref h0, .int x1] σ) (mm_Qi G rr σ) 0 0 (mm_A G) := by
  refine mm_met (by decide) rfl rfl (by  exact Nat.le_of_ble_eq_true rfl) (fun p e s m below meth c ls F hH hr hlocks hname hl => ?_)
  have hl : lv_has ls 2 [(0, .ref h0), (1, .int x1)] := by  exact hl
  have F : mm_F p s m _ c RX2 cX2_gone 2 G := F
  have hx := F.1
  have hb := F.2.1
  have hml := F.2.2.1
  have hown := F.2.2.2.1
  have hts := F.2.2.2.2.1
  unfold f_X2_gone at hf
  refine lv_iload_n hx hb dX2_gone_0 rfl (lv_at hl 1 rfl) ?_
  refine lv_iconst (v := (-1)) hx hb dX2_gone_1 (by decide) ?_
  refine lv_icmp_ne (tgt := 9) hx hb dX2_gone_2 (by decide) (fun c1 => ?_) (fun c1 => ?_)
  · rw [if_neg c1] at hf
    refine lv_aload_n hx hb dX2_gone_9 rfl (lv_at hl 0 rfl) ?_
    replace hf := b1_i hf
    obtain ⟨q2, e1, hf⟩ := hf
    refine mm_getA F hH mc_2 (k := 0) (by decide) (hts _ q1047) (fun _ h => h) e1 dX2_gone_10 ?_
    refine lv_sipush (v := 1000) hx hb dX2_gone_13 (by decide) ?_
    refine lv_iload_n hx hb dX2_gone_16 rfl (lv_at hl 1 rfl) ?_
    refine lv_iadd hx hb dX2_gone_17 ?_
    replace hf := b1_i hf
    obtain ⟨v3, e2, hf⟩ := hf
    refine mm_iald F hH e2 dX2_gone_18 ?_
    have h1 := Option.some.inj hf
    subst h1
    exact mm_reti F hH hr hlocks rfl rfl dX2_gone_19
  · rw [if_pos c1] at hf
    refine lv_iconst (v := (-1)) hx hb dX2_gone_5 (by decide) ?_
    refine lv_goto (tgt := 19) hx hb dX2_gone_6 (by decide) ?_
    have h1 := Option.some.inj hf
    subst h1
    exact mm_reti F hH hr hlocks rfl rfl dX2_gone_19
/-! IslandHeapModel.rebuilds()V -/
abbrev rm_X2_rebuilds : Room := { frames := 1, cells := 0, slots := 0, locals := 21 }
set_option maxHeartbeats 4000000 in
theorem w_X2_rebuilds_2 {p : Program} {l : Launch} {e : Env} {s : State} {m : MethodId} {av : Array Value} {below : List Frame} {meth : Method} {c : Code} {G : mm_G} {σf : mm_M} {n : Nat} {h0 : Nat} (F : mm_F p s m av c RX2 cX2_rebuilds 5 G) (hr : meth.sig.returnType = (Option.none : Option Jvm.ClassFile.FieldType)) (hlocks : meth.locks = false) (hname : meth.name = yX2_rebuilds.name) (IH2 : ∀ (x1 : Int32) (σ : mm_M) (H : Heap) (locs : List Loc) (ls : Array Slot), mm_H G s σ H locs → lv_has ls 5 [(0, .ref h0), (1, .int x1)] → itn (s_X2_rebuilds h0) n (.inl (x1, σ)) = some σf → W p l e rm_X2_rebuilds s m av below meth c H locs 0 0 (MQ below (mm_Qv G σf) av s 0 0 (mm_A G)) (F0 m 2 ls [])) (IH24 : ∀ (x1 : Int32) (σ : mm_M) (H : Heap) (locs : List Loc) (ls : Array Slot), mm_H G s σ H locs → lv_has ls 5 [(0, .ref h0), (1, .int x1)] → itn (s_X2_rebuilds h0) n (.inr (.inl (x1, σ))) = some σf → W p l e rm_X2_rebuilds s m av below meth c H locs 0 0 (MQ below (mm_Qv G σf) av s 0 0 (mm_A G)) (F0 m 24 ls [])) (IH147 : ∀ (x1 : Int32) (x2 : Int32) (x3 : Int32) (σ : mm_M) (H : Heap) (locs : List Loc) (ls : Array Slot), mm_H G s σ H locs → lv_has ls 5 [(0, .ref h0), (1, .int x1), (2, .int x2), (3, .int x3)] → itn (s_X2_rebuilds h0) n (.inr (.inr (.inl (x1, x2, x3, σ)))) = some σf → W p l e rm_X2_rebuilds s m av below meth c H locs 0 0 (MQ below (mm_Qv G σf) av s 0 0 (mm_A G)) (F0 m 147 ls [])) (IH224 : ∀ (x1 : Int32) (σ : mm_M) (H : Heap) (locs : List Loc) (ls : Array Slot), mm_H G s σ H locs → lv_has ls 5 [(0, .ref h0), (1, .int x1)] → itn (s_X2_rebuilds h0) n (.inr (.inr (.inr (x1, σ)))) = some σf → W p l e rm_X2_rebuilds s m av below meth c H locs 0 0 (MQ below (mm_Qv G σf) av s 0 0 (mm_A G)) (F0 m 224 ls []))  (x1 : Int32)  (σ : mm_M) (hf : evn (s_X2_rebuilds h0) n (g_X2_rebuilds_2 h0 x1 σ) = some σf) {H : Heap} {locs : List Loc} {ls : Array Slot} (hH : mm_H G s σ H locs) (hl : lv_has ls 5 [(0, .ref h0), (1, .int x1)]) : W p l e rm_X2_rebuilds s m av below meth c H locs 0 0 (MQ below (mm_Qv G σf) av s 0 0 (mm_A G)) (F0 m 2 ls []) := by
  have hx := F.1
  have hb := F.2.1
  have hml := F.2.2.1
  have hown := F.2.2.2.1
  have hts := F.2.2.2.2.1
  unfold g_X2_rebuilds_2 at hf
  refine lv_iload_n hx hb dX2_rebuilds_2 rfl (lv_at hl 1 rfl) ?_
  refine lv_sipush (v := 1000) hx hb dX2_rebuilds_3 (by decide) ?_
  refine lv_icmp_ge (tgt := 22) hx hb dX2_rebuilds_6 (by decide) (fun c1 => ?_) (fun c1 => ?_)
  · rw [if_pos c1] at hf
    refine lv_iconst (v := 0) hx hb dX2_rebuilds_22 (by decide) ?_
    refine lv_istore_n (lv' := [(1, .int (0 : Int32)), (0, .ref h0)]) hx hb dX2_rebuilds_23 rfl hl (by decide) rfl (fun ls hl => ?_)
    rw [evn_l] at hf
    exact IH24 (0 : Int32) σ _ _ _ hH (lv_sub hl [1, 0] rfl) hf
  · rw [if_neg c1] at hf
    refine lv_aload_n hx hb dX2_rebuilds_9 rfl (lv_at hl 0 rfl) ?_
    replace hf := evn_b1 hf
    obtain ⟨q2, e1, hf⟩ := hf
    refine mm_getA F hH mc_2 (k := 0) (by decide) (hts _ q1047) (fun _ h => h) e1 dX2_rebuilds_10 ?_
    refine lv_iload_n hx hb dX2_rebuilds_13 rfl (lv_at hl 1 rfl) ?_
    refine lv_iconst (v := 0) hx hb dX2_rebuilds_14 (by decide) ?_
    replace hf := evn_b1 hf
    obtain ⟨σ3, e2, hf⟩ := hf
    refine mm_iast F hH e2 dX2_rebuilds_15 (fun H locs hH => ?_)
    refine lv_iinc (v := x1 + (1 : Int32)) (lv' := [(1, .int (x1 + (1 : Int32))), (0, .ref h0)]) hx hb dX2_rebuilds_16 hl (k := 1) rfl rfl (by decide) rfl (fun ls hl => ?_)
    refine lv_goto (tgt := 2) hx hb dX2_rebuilds_19 (by decide) ?_
    rw [evn_l] at hf
    exact IH2 (x1 + (1 : Int32)) σ3 _ _ _ hH (lv_sub hl [1, 0] rfl) hf
set_option maxHeartbeats 4000000 in
theorem w_X2_rebuilds_24 {p : Program} {l : Launch} {e : Env} {s : State} {m : MethodId} {av : Array Value} {below : List Frame} {meth : Method} {c : Code} {G : mm_G} {σf : mm_M} {n : Nat} {h0 : Nat} (F : mm_F p s m av c RX2 cX2_rebuilds 5 G) (hr : meth.sig.returnType = (Option.none : Option Jvm.ClassFile.FieldType)) (hlocks : meth.locks = false) (hname : meth.name = yX2_rebuilds.name) (IH2 : ∀ (x1 : Int32) (σ : mm_M) (H : Heap) (locs : List Loc) (ls : Array Slot), mm_H G s σ H locs → lv_has ls 5 [(0, .ref h0), (1, .int x1)] → itn (s_X2_rebuilds h0) n (.inl (x1, σ)) = some σf → W p l e rm_X2_rebuilds s m av below meth c H locs 0 0 (MQ below (mm_Qv G σf) av s 0 0 (mm_A G)) (F0 m 2 ls [])) (IH24 : ∀ (x1 : Int32) (σ : mm_M) (H : Heap) (locs : List Loc) (ls : Array Slot), mm_H G s σ H locs → lv_has ls 5 [(0, .ref h0), (1, .int x1)] → itn (s_X2_rebuilds h0) n (.inr (.inl (x1, σ))) = some σf → W p l e rm_X2_rebuilds s m av below meth c H locs 0 0 (MQ below (mm_Qv G σf) av s 0 0 (mm_A G)) (F0 m 24 ls [])) (IH147 : ∀ (x1 : Int32) (x2 : Int32) (x3 : Int32) (σ : mm_M) (H : Heap) (locs : List Loc) (ls : Array Slot), mm_H G s σ H locs → lv_has ls 5 [(0, .ref h0), (1, .int x1), (2, .int x2), (3, .int x3)] → itn (s_X2_rebuilds h0) n (.inr (.inr (.inl (x1, x2, x3, σ)))) = some σf → W p l e rm_X2_rebuilds s m av below meth c H locs 0 0 (MQ below (mm_Qv G σf) av s 0 0 (mm_A G)) (F0 m 147 ls [])) (IH224 : ∀ (x1 : Int32) (σ : mm_M) (H : Heap) (locs : List Loc) (ls : Array Slot), mm_H G s σ H locs → lv_has ls 5 [(0, .ref h0), (1, .int x1)] → itn (s_X2_rebuilds h0) n (.inr (.inr (.inr (x1, σ)))) = some σf → W p l e rm_X2_rebuilds s m av below meth c H locs 0 0 (MQ below (mm_Qv G σf) av s 0 0 (mm_A G)) (F0 m 224 ls []))  (x1 : Int32)  (σ : mm_M) (hf : evn (s_X2_rebuilds h0) n (g_X2_rebuilds_24 h0 x1 σ) = some σf) {H : Heap} {locs : List Loc} {ls : Array Slot} (hH : mm_H G s σ H locs) (hl : lv_has ls 5 [(0, .ref h0), (1, .int x1)]) : W p l e rm_X2_rebuilds s m av below meth c H locs 0 0 (MQ below (mm_Qv G σf) av s 0 0 (mm_A G)) (F0 m 24 ls []) := by
  have hx := F.1
  have hb := F.2.1
  have hml := F.2.2.1
  have hown := F.2.2.2.1
  have hts := F.2.2.2.2.1
  unfold g_X2_rebuilds_24 at hf
  refine lv_iload_n hx hb dX2_rebuilds_24 rfl (lv_at hl 1 rfl) ?_
  refine lv_aload_n hx hb dX2_rebuilds_25 rfl (lv_at hl 0 rfl) ?_
  replace hf := evn_b1 hf
  obtain ⟨q1, e1, hf⟩ := hf
  refine mm_getA F hH mc_2 (k := 0) (by decide) (hts _ q1047) (fun _ h => h) e1 dX2_rebuilds_26 ?_
  refine lv_sipush (v := 1216) hx hb dX2_rebuilds_29 (by decide) ?_
  replace hf := evn_b1 hf
  obtain ⟨v2, e2, hf⟩ := hf
  refine mm_iald F hH e2 dX2_rebuilds_32 ?_
  refine lv_icmp_ge (tgt := 222) hx hb dX2_rebuilds_33 (by decide) (fun c3 => ?_) (fun c3 => ?_)
  · rw [if_pos c3] at hf
    refine lv_iconst (v := 0) hx hb dX2_rebuilds_222 (by decide) ?_
    refine lv_istore_n (lv' := [(1, .int (0 : Int32)), (0, .ref h0)]) hx hb dX2_rebuilds_223 rfl hl (by decide) rfl (fun ls hl => ?_)
    rw [evn_l] at hf
    exact IH224 (0 : Int32) σ _ _ _ hH (lv_sub hl [1, 0] rfl) hf
  · rw [if_neg c3] at hf
    refine lv_aload_n hx hb dX2_rebuilds_36 rfl (lv_at hl 0 rfl) ?_
    replace hf := evn_b1 hf
    obtain ⟨q4, e3, hf⟩ := hf
    refine mm_getA F hH mc_2 (k := 1) (by decide) (hts _ q1048) (fun _ h => h) e3 dX2_rebuilds_37 ?_
    refine lv_iconst (v := 0) hx hb dX2_rebuilds_40 (by decide) ?_
    refine lv_iload_n hx hb dX2_rebuilds_41 rfl (lv_at hl 1 rfl) ?_
    refine lv_iadd hx hb dX2_rebuilds_42 ?_
    replace hf := evn_b1 hf
    obtain ⟨v5, e4, hf⟩ := hf
    refine mm_iald F hH e4 dX2_rebuilds_43 ?_
    refine lv_if_le (tgt := 216) hx hb dX2_rebuilds_44 (by decide) (fun c6 => ?_) (fun c6 => ?_)
    · rw [if_pos c6] at hf
      refine lv_iinc (v := x1 + (1 : Int32)) (lv' := [(1, .int (x1 + (1 : Int32))), (0, .ref h0)]) hx hb dX2_rebuilds_216 hl (k := 1) rfl rfl (by decide) rfl (fun ls hl => ?_)
      refine lv_goto (tgt := 24) hx hb dX2_rebuilds_219 (by decide) ?_
      rw [evn_l] at hf
      exact IH24 (x1 + (1 : Int32)) σ _ _ _ hH (lv_sub hl [1, 0] rfl) hf
    · rw [if_neg c6] at hf
      refine lv_aload_n hx hb dX2_rebuilds_47 rfl (lv_at hl 0 rfl) ?_
      replace hf := evn_b1 hf
      obtain ⟨q7, e5, hf⟩ := hf
      refine mm_getA F hH mc_2 (k := 8) (by decide) (hts _ q1055) (fun _ h => h) e5 dX2_rebuilds_48 ?_
      refine lv_iload_n hx hb dX2_rebuilds_51 rfl (lv_at hl 1 rfl) ?_
      replace hf := evn_b1 hf
      obtain ⟨v8, e6, hf⟩ := hf
      refine mm_zald F hH e6 dX2_rebuilds_52 ?_
      refine lv_if_eq (tgt := 216) hx hb dX2_rebuilds_53 (by decide) (fun c9 => ?_) (fun c9 => ?_)
      · rw [if_pos c9] at hf
        refine lv_iinc (v := x1 + (1 : Int32)) (lv' := [(1, .int (x1 + (1 : Int32))), (0, .ref h0)]) hx hb dX2_rebuilds_216 hl (k := 1) rfl rfl (by decide) rfl (fun ls hl => ?_)
        refine lv_goto (tgt := 24) hx hb dX2_rebuilds_219 (by decide) ?_
        rw [evn_l] at hf
        exact IH24 (x1 + (1 : Int32)) σ _ _ _ hH (lv_sub hl [1, 0] rfl) hf
      · rw [if_neg c9] at hf
        refine lv_aload_n hx hb dX2_rebuilds_56 rfl (lv_at hl 0 rfl) ?_
        replace hf := evn_b1 hf
        obtain ⟨q10, e7, hf⟩ := hf
        refine mm_getA F hH mc_2 (k := 0) (by decide) (hts _ q1047) (fun _ h => h) e7 dX2_rebuilds_57 ?_
        refine lv_sipush (v := 1000) hx hb dX2_rebuilds_60 (by decide) ?_
        refine lv_iload_n hx hb dX2_rebuilds_63 rfl (lv_at hl 1 rfl) ?_
        refine lv_iadd hx hb dX2_rebuilds_64 ?_
        replace hf := evn_b1 hf
        obtain ⟨v11, e8, hf⟩ := hf
        refine mm_iald F hH e8 dX2_rebuilds_65 ?_
        refine lv_istore_n (lv' := [(2, .int v11), (0, .ref h0), (1, .int x1)]) hx hb dX2_rebuilds_66 rfl hl (by decide) rfl (fun ls hl => ?_)
        refine lv_aload_n hx hb dX2_rebuilds_67 rfl (lv_at hl 1 rfl) ?_
        replace hf := evn_b1 hf
        obtain ⟨q12, e9, hf⟩ := hf
        refine mm_getA F hH mc_2 (k := 0) (by decide) (hts _ q1047) (fun _ h => h) e9 dX2_rebuilds_68 ?_
        refine lv_iconst (v := 0) hx hb dX2_rebuilds_71 (by decide) ?_
        refine lv_iload_n hx hb dX2_rebuilds_72 rfl (lv_at hl 0 rfl) ?_
        refine lv_iadd hx hb dX2_rebuilds_73 ?_
        refine lv_aload_n hx hb dX2_rebuilds_74 rfl (lv_at hl 1 rfl) ?_
        replace hf := evn_b1 hf
        obtain ⟨q13, e10, hf⟩ := hf
        refine mm_getA F hH mc_2 (k := 1) (by decide) (hts _ q1048) (fun _ h => h) e10 dX2_rebuilds_75 ?_
        refine lv_iconst (v := 0) hx hb dX2_rebuilds_78 (by decide) ?_
        refine lv_iload_n hx hb dX2_rebuilds_79 rfl (lv_at hl 2 rfl) ?_
        refine lv_iadd hx hb dX2_rebuilds_80 ?_
        replace hf := evn_b1 hf
        obtain ⟨v14, e11, hf⟩ := hf
        refine mm_iald F hH e11 dX2_rebuilds_81 ?_
        replace hf := evn_b1 hf
        obtain ⟨σ15, e12, hf⟩ := hf
        refine mm_iast F hH e12 dX2_rebuilds_82 (fun H locs hH => ?_)
        refine lv_aload_n hx hb dX2_rebuilds_83 rfl (lv_at hl 1 rfl) ?_
        replace hf := evn_b1 hf
        obtain ⟨q16, e13, hf⟩ := hf
        refine mm_getA F hH mc_2 (k := 0) (by decide) (hts _ q1047) (fun _ h => h) e13 dX2_rebuilds_84 ?_
        refine lv_sipush (v := 200) hx hb dX2_rebuilds_87 (by decide) ?_
        refine lv_iload_n hx hb dX2_rebuilds_90 rfl (lv_at hl 0 rfl) ?_
        refine lv_iadd hx hb dX2_rebuilds_91 ?_
        refine lv_aload_n hx hb dX2_rebuilds_92 rfl (lv_at hl 1 rfl) ?_
        replace hf := evn_b1 hf
        obtain ⟨q17, e14, hf⟩ := hf
        refine mm_getA F hH mc_2 (k := 1) (by decide) (hts _ q1048) (fun _ h => h) e14 dX2_rebuilds_93 ?_
        refine lv_sipush (v := 200) hx hb dX2_rebuilds_96 (by decide) ?_
        refine lv_iload_n hx hb dX2_rebuilds_99 rfl (lv_at hl 2 rfl) ?_
        refine lv_iadd hx hb dX2_rebuilds_100 ?_
        replace hf := evn_b1 hf
        obtain ⟨v18, e15, hf⟩ := hf
        refine mm_iald F hH e15 dX2_rebuilds_101 ?_
        replace hf := evn_b1 hf
        obtain ⟨σ19, e16, hf⟩ := hf
        refine mm_iast F hH e16 dX2_rebuilds_102 (fun H locs hH => ?_)
        refine lv_aload_n hx hb dX2_rebuilds_103 rfl (lv_at hl 1 rfl) ?_
        replace hf := evn_b1 hf
        obtain ⟨q20, e17, hf⟩ := hf
        refine mm_getA F hH mc_2 (k := 0) (by decide) (hts _ q1047) (fun _ h => h) e17 dX2_rebuilds_104 ?_
        refine lv_sipush (v := 400) hx hb dX2_rebuilds_107 (by decide) ?_
        refine lv_iload_n hx hb dX2_rebuilds_110 rfl (lv_at hl 0 rfl) ?_
        refine lv_iadd hx hb dX2_rebuilds_111 ?_
        refine lv_aload_n hx hb dX2_rebuilds_112 rfl (lv_at hl 1 rfl) ?_
        replace hf := evn_b1 hf
        obtain ⟨q21, e18, hf⟩ := hf
        refine mm_getA F hH mc_2 (k := 1) (by decide) (hts _ q1048) (fun _ h => h) e18 dX2_rebuilds_113 ?_
        refine lv_sipush (v := 400) hx hb dX2_rebuilds_116 (by decide) ?_
        refine lv_iload_n hx hb dX2_rebuilds_119 rfl (lv_at hl 2 rfl) ?_
        refine lv_iadd hx hb dX2_rebuilds_120 ?_
        replace hf := evn_b1 hf
        obtain ⟨v22, e19, hf⟩ := hf
        refine mm_iald F hH e19 dX2_rebuilds_121 ?_
        replace hf := evn_b1 hf
        obtain ⟨σ23, e20, hf⟩ := hf
        refine mm_iast F hH e20 dX2_rebuilds_122 (fun H locs hH => ?_)
        refine lv_aload_n hx hb dX2_rebuilds_123 rfl (lv_at hl 1 rfl) ?_
        replace hf := evn_b1 hf
        obtain ⟨q24, e21, hf⟩ := hf
        refine mm_getA F hH mc_2 (k := 0) (by decide) (hts _ q1047) (fun _ h => h) e21 dX2_rebuilds_124 ?_
        refine lv_sipush (v := 600) hx hb dX2_rebuilds_127 (by decide) ?_
        refine lv_iload_n hx hb dX2_rebuilds_130 rfl (lv_at hl 0 rfl) ?_
        refine lv_iadd hx hb dX2_rebuilds_131 ?_
        refine lv_aload_n hx hb dX2_rebuilds_132 rfl (lv_at hl 1 rfl) ?_
        replace hf := evn_b1 hf
        obtain ⟨q25, e22, hf⟩ := hf
        refine mm_getA F hH mc_2 (k := 1) (by decide) (hts _ q1048) (fun _ h => h) e22 dX2_rebuilds_133 ?_
        refine lv_sipush (v := 600) hx hb dX2_rebuilds_136 (by decide) ?_
        refine lv_iload_n hx hb dX2_rebuilds_139 rfl (lv_at hl 2 rfl) ?_
        refine lv_iadd hx hb dX2_rebuilds_140 ?_
        replace hf := evn_b1 hf
        obtain ⟨v26, e23, hf⟩ := hf
        refine mm_iald F hH e23 dX2_rebuilds_141 ?_
        refine lv_iconst (v := 1) hx hb dX2_rebuilds_142 (by decide) ?_
        refine lv_iadd hx hb dX2_rebuilds_143 ?_
        replace hf := evn_b1 hf
        obtain ⟨σ27, e24, hf⟩ := hf
        refine mm_iast F hH e24 dX2_rebuilds_144 (fun H locs hH => ?_)
        refine lv_iconst (v := 1) hx hb dX2_rebuilds_145 (by decide) ?_
        refine lv_istore_n (lv' := [(3, .int (1 : Int32)), (2, .int v11), (0, .ref h0), (1, .int x1)]) hx hb dX2_rebuilds_146 rfl hl (by decide) rfl (fun ls hl => ?_)
        rw [evn_l] at hf
        exact IH147 x1 v11 (1 : Int32) σ27 _ _ _ hH (lv_sub hl [2, 3, 1, 0] rfl) hf
set_option maxHeartbeats 4000000 in
theorem w_X2_rebuilds_147 {p : Program} {l : Launch} {e : Env} {s : State} {m : MethodId} {av : Array Value} {below : List Frame} {meth : Method} {c : Code} {G : mm_G} {σf : mm_M} {n : Nat} {h0 : Nat} (F : mm_F p s m av c RX2 cX2_rebuilds 5 G) (hr : meth.sig.returnType = (Option.none : Option Jvm.ClassFile.FieldType)) (hlocks : meth.locks = false) (hname : meth.name = yX2_rebuilds.name) (IH2 : ∀ (x1 : Int32) (σ : mm_M) (H : Heap) (locs : List Loc) (ls : Array Slot), mm_H G s σ H locs → lv_has ls 5 [(0, .ref h0), (1, .int x1)] → itn (s_X2_rebuilds h0) n (.inl (x1, σ)) = some σf → W p l e rm_X2_rebuilds s m av below meth c H locs 0 0 (MQ below (mm_Qv G σf) av s 0 0 (mm_A G)) (F0 m 2 ls [])) (IH24 : ∀ (x1 : Int32) (σ : mm_M) (H : Heap) (locs : List Loc) (ls : Array Slot), mm_H G s σ H locs → lv_has ls 5 [(0, .ref h0), (1, .int x1)] → itn (s_X2_rebuilds h0) n (.inr (.inl (x1, σ))) = some σf → W p l e rm_X2_rebuilds s m av below meth c H locs 0 0 (MQ below (mm_Qv G σf) av s 0 0 (mm_A G)) (F0 m 24 ls [])) (IH147 : ∀ (x1 : Int32) (x2 : Int32) (x3 : Int32) (σ : mm_M) (H : Heap) (locs : List Loc) (ls : Array Slot), mm_H G s σ H locs → lv_has ls 5 [(0, .ref h0), (1, .int x1), (2, .int x2), (3, .int x3)] → itn (s_X2_rebuilds h0) n (.inr (.inr (.inl (x1, x2, x3, σ)))) = some σf → W p l e rm_X2_rebuilds s m av below meth c H locs 0 0 (MQ below (mm_Qv G σf) av s 0 0 (mm_A G)) (F0 m 147 ls [])) (IH224 : ∀ (x1 : Int32) (σ : mm_M) (H : Heap) (locs : List Loc) (ls : Array Slot), mm_H G s σ H locs → lv_has ls 5 [(0, .ref h0), (1, .int x1)] → itn (s_X2_rebuilds h0) n (.inr (.inr (.inr (x1, σ)))) = some σf → W p l e rm_X2_rebuilds s m av below meth c H locs 0 0 (MQ below (mm_Qv G σf) av s 0 0 (mm_A G)) (F0 m 224 ls []))  (x1 : Int32) (x2 : Int32) (x3 : Int32)  (σ : mm_M) (hf : evn (s_X2_rebuilds h0) n (g_X2_rebuilds_147 h0 x1 x2 x3 σ) = some σf) {H : Heap} {locs : List Loc} {ls : Array Slot} (hH : mm_H G s σ H locs) (hl : lv_has ls 5 [(0, .ref h0), (1, .int x1), (2, .int x2), (3, .int x3)]) : W p l e rm_X2_rebuilds s m av below meth c H locs 0 0 (MQ below (mm_Qv G σf) av s 0 0 (mm_A G)) (F0 m 147 ls []) := by
  have hx := F.1
  have hb := F.2.1
  have hml := F.2.2.1
  have hown := F.2.2.2.1
  have hts := F.2.2.2.2.1
  unfold g_X2_rebuilds_147 at hf
  refine lv_iload_n hx hb dX2_rebuilds_147 rfl (lv_at hl 3 rfl) ?_
  refine lv_aload_n hx hb dX2_rebuilds_148 rfl (lv_at hl 0 rfl) ?_
  replace hf := evn_b1 hf
  obtain ⟨q1, e1, hf⟩ := hf
  refine mm_getA F hH mc_2 (k := 1) (by decide) (hts _ q1048) (fun _ h => h) e1 dX2_rebuilds_149 ?_
  refine lv_iconst (v := 0) hx hb dX2_rebuilds_152 (by decide) ?_
  refine lv_iload_n hx hb dX2_rebuilds_153 rfl (lv_at hl 1 rfl) ?_
  refine lv_iadd hx hb dX2_rebuilds_154 ?_
  replace hf := evn_b1 hf
  obtain ⟨v2, e2, hf⟩ := hf
  refine mm_iald F hH e2 dX2_rebuilds_155 ?_
  refine lv_icmp_ge (tgt := 216) hx hb dX2_rebuilds_156 (by decide) (fun c3 => ?_) (fun c3 => ?_)
  · rw [if_pos c3] at hf
    refine lv_iinc (v := x1 + (1 : Int32)) (lv' := [(1, .int (x1 + (1 : Int32))), (0, .ref h0), (2, .int x2), (3, .int x3)]) hx hb dX2_rebuilds_216 hl (k := 1) rfl rfl (by decide) rfl (fun ls hl => ?_)
    refine lv_goto (tgt := 24) hx hb dX2_rebuilds_219 (by decide) ?_
    rw [evn_l] at hf
    exact IH24 (x1 + (1 : Int32)) σ _ _ _ hH (lv_sub hl [1, 0] rfl) hf
  · rw [if_neg c3] at hf
    refine lv_aload_n hx hb dX2_rebuilds_159 rfl (lv_at hl 0 rfl) ?_
    replace hf := evn_b1 hf
    obtain ⟨q4, e3, hf⟩ := hf
    refine mm_getA F hH mc_2 (k := 1) (by decide) (hts _ q1048) (fun _ h => h) e3 dX2_rebuilds_160 ?_
    refine lv_sipush (v := 800) hx hb dX2_rebuilds_163 (by decide) ?_
    refine lv_iload_n hx hb dX2_rebuilds_166 rfl (lv_at hl 1 rfl) ?_
    refine lv_iadd hx hb dX2_rebuilds_167 ?_
    refine lv_iload_n hx hb dX2_rebuilds_168 rfl (lv_at hl 3 rfl) ?_
    refine lv_iadd hx hb dX2_rebuilds_169 ?_
    replace hf := evn_b1 hf
    obtain ⟨v5, e4, hf⟩ := hf
    refine mm_iald F hH e4 dX2_rebuilds_170 ?_
    refine lv_istore (lv' := [(4, .int v5), (0, .ref h0), (1, .int x1), (2, .int x2), (3, .int x3)]) hx hb dX2_rebuilds_171 hl (by decide) rfl (fun ls hl => ?_)
    refine lv_aload_n hx hb dX2_rebuilds_173 rfl (lv_at hl 1 rfl) ?_
    replace hf := evn_b1 hf
    obtain ⟨q6, e5, hf⟩ := hf
    refine mm_getA F hH mc_2 (k := 0) (by decide) (hts _ q1047) (fun _ h => h) e5 dX2_rebuilds_174 ?_
    refine lv_sipush (v := 800) hx hb dX2_rebuilds_177 (by decide) ?_
    refine lv_iload_n hx hb dX2_rebuilds_180 rfl (lv_at hl 3 rfl) ?_
    refine lv_iadd hx hb dX2_rebuilds_181 ?_
    refine lv_iload_n hx hb dX2_rebuilds_182 rfl (lv_at hl 4 rfl) ?_
    refine lv_iadd hx hb dX2_rebuilds_183 ?_
    refine lv_iload_n hx hb dX2_rebuilds_184 rfl (lv_at hl 4 rfl) ?_
    refine lv_aload_n hx hb dX2_rebuilds_185 rfl (lv_at hl 1 rfl) ?_
    replace hf := evn_b1 hf
    obtain ⟨q7, e6, hf⟩ := hf
    refine mm_getA F hH mc_2 (k := 1) (by decide) (hts _ q1048) (fun _ h => h) e6 dX2_rebuilds_186 ?_
    refine lv_sipush (v := 200) hx hb dX2_rebuilds_189 (by decide) ?_
    refine lv_iload_n hx hb dX2_rebuilds_192 rfl (lv_at hl 2 rfl) ?_
    refine lv_iadd hx hb dX2_rebuilds_193 ?_
    replace hf := evn_b1 hf
    obtain ⟨v8, e7, hf⟩ := hf
    refine mm_iald F hH e7 dX2_rebuilds_194 ?_
    refine lv_icmp_gt (tgt := 207) hx hb dX2_rebuilds_195 (by decide) (fun c9 => ?_) (fun c9 => ?_)
    · rw [if_pos c9] at hf
      refine lv_iload hx hb dX2_rebuilds_207 (lv_at hl 0 rfl) ?_
      replace hf := evn_b1 hf
      obtain ⟨σ10, e8, hf⟩ := hf
      refine mm_iast F hH e8 dX2_rebuilds_209 (fun H locs hH => ?_)
      refine lv_iinc (v := x3 + (1 : Int32)) (lv' := [(3, .int (x3 + (1 : Int32))), (4, .int v5), (0, .ref h0), (1, .int x1), (2, .int x2)]) hx hb dX2_rebuilds_210 hl (k := 4) rfl rfl (by decide) rfl (fun ls hl => ?_)
      refine lv_goto (tgt := 147) hx hb dX2_rebuilds_213 (by decide) ?_
      rw [evn_l] at hf
      exact IH147 x1 x2 (x3 + (1 : Int32)) σ10 _ _ _ hH (lv_sub hl [2, 3, 4, 0] rfl) hf
    · rw [if_neg c9] at hf
      refine lv_aload_n hx hb dX2_rebuilds_198 rfl (lv_at hl 1 rfl) ?_
      refine lv_iload hx hb dX2_rebuilds_199 (lv_at hl 0 rfl) ?_
      replace hf := evn_b1 hf
      obtain ⟨u, e9, hf⟩ := hf
      obtain ⟨fs, ek⟩ := ck_i e9
      replace hf := evn_b1 hf
      obtain ⟨v11, e10, hf⟩ := hf
      refine mm_ci (va_runV (As := [.int v5]) (rest := [.int (((800 : Int32) + x2) + x3), .ref q6]) ⟨hx, hb, hml, hown, hts⟩ (m_X2_gone l G h0 v5 σ v11 e10) (cwV 1 hts (lw_V q1231 q1233 qs49 q67 q1234) rfl rfl rfl (by decide +kernel) ⟨Nat.le_of_ble_eq_true rfl, Nat.le_of_ble_eq_true rfl⟩) (mm_preV F.2.2.2.2.2 hH (ci := 2) rfl ek) rfl rfl hl.1 rfl (lv_room (Nat.le_of_ble_eq_true rfl)) dX2_rebuilds_201 ⟨Nat.le_of_ble_eq_true rfl, Nat.le_of_ble_eq_true rfl⟩) hH (fun H locs hH => ?_)
      refine lv_goto (tgt := 209) hx hb dX2_rebuilds_204 (by decide) ?_
      replace hf := evn_b1 hf
      obtain ⟨σ12, e11, hf⟩ := hf
      refine mm_iast F hH e11 dX2_rebuilds_209 (fun H locs hH => ?_)
      refine lv_iinc (v := x3 + (1 : Int32)) (lv' := [(3, .int (x3 + (1 : Int32))), (4, .int v5), (0, .ref h0), (1, .int x1), (2, .int x2)]) hx hb dX2_rebuilds_210 hl (k := 4) rfl rfl (by decide) rfl (fun ls hl => ?_)
      refine lv_goto (tgt := 147) hx hb dX2_rebuilds_213 (by decide) ?_
      rw [evn_l] at hf
      exact IH147 x1 x2 (x3 + (1 : Int32)) σ12 _ _ _ hH (lv_sub hl [2, 3, 4, 0] rfl) hf
set_option maxHeartbeats 4000000 in
theorem w_X2_rebuilds_224 {p : Program} {l : Launch} {e : Env} {s : State} {m : MethodId} {av : Array Value} {below : List Frame} {meth : Method} {c : Code} {G : mm_G} {σf : mm_M} {n : Nat} {h0 : Nat} (F : mm_F p s m av c RX2 cX2_rebuilds 5 G) (hr : meth.sig.returnType = (Option.none : Option Jvm.ClassFile.FieldType)) (hlocks : meth.locks = false) (hname : meth.name = yX2_rebuilds.name) (IH2 : ∀ (x1 : Int32) (σ : mm_M) (H : Heap) (locs : List Loc) (ls : Array Slot), mm_H G s σ H locs → lv_has ls 5 [(0, .ref h0), (1, .int x1)] → itn (s_X2_rebuilds h0) n (.inl (x1, σ)) = some σf → W p l e rm_X2_rebuilds s m av below meth c H locs 0 0 (MQ below (mm_Qv G σf) av s 0 0 (mm_A G)) (F0 m 2 ls [])) (IH24 : ∀ (x1 : Int32) (σ : mm_M) (H : Heap) (locs : List Loc) (ls : Array Slot), mm_H G s σ H locs → lv_has ls 5 [(0, .ref h0), (1, .int x1)] → itn (s_X2_rebuilds h0) n (.inr (.inl (x1, σ))) = some σf → W p l e rm_X2_rebuilds s m av below meth c H locs 0 0 (MQ below (mm_Qv G σf) av s 0 0 (mm_A G)) (F0 m 24 ls [])) (IH147 : ∀ (x1 : Int32) (x2 : Int32) (x3 : Int32) (σ : mm_M) (H : Heap) (locs : List Loc) (ls : Array Slot), mm_H G s σ H locs → lv_has ls 5 [(0, .ref h0), (1, .int x1), (2, .int x2), (3, .int x3)] → itn (s_X2_rebuilds h0) n (.inr (.inr (.inl (x1, x2, x3, σ)))) = some σf → W p l e rm_X2_rebuilds s m av below meth c H locs 0 0 (MQ below (mm_Qv G σf) av s 0 0 (mm_A G)) (F0 m 147 ls [])) (IH224 : ∀ (x1 : Int32) (σ : mm_M) (H : Heap) (locs : List Loc) (ls : Array Slot), mm_H G s σ H locs → lv_has ls 5 [(0, .ref h0), (1, .int x1)] → itn (s_X2_rebuilds h0) n (.inr (.inr (.inr (x1, σ)))) = some σf → W p l e rm_X2_rebuilds s m av below meth c H locs 0 0 (MQ below (mm_Qv G σf) av s 0 0 (mm_A G)) (F0 m 224 ls []))  (x1 : Int32)  (σ : mm_M) (hf : evn (s_X2_rebuilds h0) n (g_X2_rebuilds_224 h0 x1 σ) = some σf) {H : Heap} {locs : List Loc} {ls : Array Slot} (hH : mm_H G s σ H locs) (hl : lv_has ls 5 [(0, .ref h0), (1, .int x1)]) : W p l e rm_X2_rebuilds s m av below meth c H locs 0 0 (MQ below (mm_Qv G σf) av s 0 0 (mm_A G)) (F0 m 224 ls []) := by
  have hx := F.1
  have hb := F.2.1
  have hml := F.2.2.1
  have hown := F.2.2.2.1
  have hts := F.2.2.2.2.1
  unfold g_X2_rebuilds_224 at hf
  refine lv_iload_n hx hb dX2_rebuilds_224 rfl (lv_at hl 1 rfl) ?_
  refine lv_bipush (v := 10) hx hb dX2_rebuilds_225 (by decide) ?_
  refine lv_icmp_ge (tgt := 260) hx hb dX2_rebuilds_227 (by decide) (fun c1 => ?_) (fun c1 => ?_)
  · rw [if_pos c1] at hf
    rw [evn_r] at hf
    have h1 := Option.some.inj hf
    subst h1
    exact mm_retv F hH hr hlocks dX2_rebuilds_260
  · rw [if_neg c1] at hf
    refine lv_aload_n hx hb dX2_rebuilds_230 rfl (lv_at hl 0 rfl) ?_
    replace hf := evn_b1 hf
    obtain ⟨q2, e1, hf⟩ := hf
    refine mm_getA F hH mc_2 (k := 0) (by decide) (hts _ q1047) (fun _ h => h) e1 dX2_rebuilds_231 ?_
    refine lv_sipush (v := 1200) hx hb dX2_rebuilds_234 (by decide) ?_
    refine lv_iload_n hx hb dX2_rebuilds_237 rfl (lv_at hl 1 rfl) ?_
    refine lv_iadd hx hb dX2_rebuilds_238 ?_
    refine lv_aload_n hx hb dX2_rebuilds_239 rfl (lv_at hl 0 rfl) ?_
    refine lv_aload_n hx hb dX2_rebuilds_240 rfl (lv_at hl 0 rfl) ?_
    replace hf := evn_b1 hf
    obtain ⟨q3, e2, hf⟩ := hf
    refine mm_getA F hH mc_2 (k := 1) (by decide) (hts _ q1048) (fun _ h => h) e2 dX2_rebuilds_241 ?_
    refine lv_sipush (v := 1200) hx hb dX2_rebuilds_244 (by decide) ?_
    refine lv_iload_n hx hb dX2_rebuilds_247 rfl (lv_at hl 1 rfl) ?_
    refine lv_iadd hx hb dX2_rebuilds_248 ?_
    replace hf := evn_b1 hf
    obtain ⟨v4, e3, hf⟩ := hf
    refine mm_iald F hH e3 dX2_rebuilds_249 ?_
    replace hf := evn_b1 hf
    obtain ⟨u, e4, hf⟩ := hf
    obtain ⟨fs, ek⟩ := ck_i e4
    replace hf := evn_b1 hf
    obtain ⟨v5, e5, hf⟩ := hf
    refine mm_ci (va_runV (As := [.int v4]) (rest := [.int ((1200 : Int32) + x1), .ref q2]) ⟨hx, hb, hml, hown, hts⟩ (m_X2_gone l G h0 v4 σ v5 e5) (cwV 1 hts (lw_V q1231 q1233 qs49 q67 q1234) rfl rfl rfl (by decide +kernel) ⟨Nat.le_of_ble_eq_true rfl, Nat.le_of_ble_eq_true rfl⟩) (mm_preV F.2.2.2.2.2 hH (ci := 2) rfl ek) rfl rfl hl.1 rfl (lv_room (Nat.le_of_ble_eq_true rfl)) dX2_rebuilds_250 ⟨Nat.le_of_ble_eq_true rfl, Nat.le_of_ble_eq_true rfl⟩) hH (fun H locs hH => ?_)
    replace hf := evn_b1 hf
    obtain ⟨σ6, e6, hf⟩ := hf
    refine mm_iast F hH e6 dX2_rebuilds_253 (fun H locs hH => ?_)
    refine lv_iinc (v := x1 + (1 : Int32)) (lv' := [(1, .int (x1 + (1 : Int32))), (0, .ref h0)]) hx hb dX2_rebuilds_254 hl (k := 1) rfl rfl (by decide) rfl (fun ls hl => ?_)
    refine lv_goto (tgt := 224) hx hb dX2_rebuilds_257 (by decide) ?_
    rw [evn_l] at hf
    exact IH224 (x1 + (1 : Int32)) σ6 _ _ _ hH (lv_sub hl [1, 0] rfl) hf
set_option maxHeartbeats 4000000 in
theorem w_X2_rebuilds_0 {p : Program} {l : Launch} {e : Env} {s : State} {m : MethodId} {av : Array Value} {below : List Frame} {meth : Method} {c : Code} {G : mm_G} {σf : mm_M} {n : Nat} {h0 : Nat} (F : mm_F p s m av c RX2 cX2_rebuilds 5 G) (hr : meth.sig.returnType = (Option.none : Option Jvm.ClassFile.FieldType)) (hlocks : meth.locks = false) (hname : meth.name = yX2_rebuilds.name) (IH2 : ∀ (x1 : Int32) (σ : mm_M) (H : Heap) (locs : List Loc) (ls : Array Slot), mm_H G s σ H locs → lv_has ls 5 [(0, .ref h0), (1, .int x1)] → itn (s_X2_rebuilds h0) n (.inl (x1, σ)) = some σf → W p l e rm_X2_rebuilds s m av below meth c H locs 0 0 (MQ below (mm_Qv G σf) av s 0 0 (mm_A G)) (F0 m 2 ls [])) (IH24 : ∀ (x1 : Int32) (σ : mm_M) (H : Heap) (locs : List Loc) (ls : Array Slot), mm_H G s σ H locs → lv_has ls 5 [(0, .ref h0), (1, .int x1)] → itn (s_X2_rebuilds h0) n (.inr (.inl (x1, σ))) = some σf → W p l e rm_X2_rebuilds s m av below meth c H locs 0 0 (MQ below (mm_Qv G σf) av s 0 0 (mm_A G)) (F0 m 24 ls [])) (IH147 : ∀ (x1 : Int32) (x2 : Int32) (x3 : Int32) (σ : mm_M) (H : Heap) (locs : List Loc) (ls : Array Slot), mm_H G s σ H locs → lv_has ls 5 [(0, .ref h0), (1, .int x1), (2, .int x2), (3, .int x3)] → itn (s_X2_rebuilds h0) n (.inr (.inr (.inl (x1, x2, x3, σ)))) = some σf → W p l e rm_X2_rebuilds s m av below meth c H locs 0 0 (MQ below (mm_Qv G σf) av s 0 0 (mm_A G)) (F0 m 147 ls [])) (IH224 : ∀ (x1 : Int32) (σ : mm_M) (H : Heap) (locs : List Loc) (ls : Array Slot), mm_H G s σ H locs → lv_has ls 5 [(0, .ref h0), (1, .int x1)] → itn (s_X2_rebuilds h0) n (.inr (.inr (.inr (x1, σ)))) = some σf → W p l e rm_X2_rebuilds s m av below meth c H locs 0 0 (MQ below (mm_Qv G σf) av s 0 0 (mm_A G)) (F0 m 224 ls []))    (σ : mm_M) (hf : evn (s_X2_rebuilds h0) n (g_X2_rebuilds_0 h0 σ) = some σf) {H : Heap} {locs : List Loc} {ls : Array Slot} (hH : mm_H G s σ H locs) (hl : lv_has ls 5 [(0, .ref h0)]) : W p l e rm_X2_rebuilds s m av below meth c H locs 0 0 (MQ below (mm_Qv G σf) av s 0 0 (mm_A G)) (F0 m 0 ls []) := by
  have hx := F.1
  have hb := F.2.1
  have hml := F.2.2.1
  have hown := F.2.2.2.1
  have hts := F.2.2.2.2.1
  unfold g_X2_rebuilds_0 at hf
  refine lv_iconst (v := 0) hx hb dX2_rebuilds_0 (by decide) ?_
  refine lv_istore_n (lv' := [(1, .int (0 : Int32)), (0, .ref h0)]) hx hb dX2_rebuilds_1 rfl hl (by decide) rfl (fun ls hl => ?_)
  rw [evn_l] at hf
  exact IH2 (0 : Int32) σ _ _ _ hH (lv_sub hl [1, 0] rfl) hf
set_option maxHeartbeats 4000000 in
theorem l_X2_rebuilds {p : Program} {l : Launch} {e : Env} {s : State} {m : MethodId} {av : Array Value} {below : List Frame} {meth : Method} {c : Code} {G : mm_G} {σf : mm_M} {h0 : Nat} (F : mm_F p s m av c RX2 cX2_rebuilds 5 G) (hr : meth.sig.returnType = (Option.none : Option Jvm.ClassFile.FieldType)) (hlocks : meth.locks = false) (hname : meth.name = yX2_rebuilds.name) : ∀ n : Nat, (∀ (x1 : Int32) (σ : mm_M) (H : Heap) (locs : List Loc) (ls : Array Slot), mm_H G s σ H locs → lv_has ls 5 [(0, .ref h0), (1, .int x1)] → itn (s_X2_rebuilds h0) n (.inl (x1, σ)) = some σf → W p l e rm_X2_rebuilds s m av below meth c H locs 0 0 (MQ below (mm_Qv G σf) av s 0 0 (mm_A G)) (F0 m 2 ls [])) ∧ (∀ (x1 : Int32) (σ : mm_M) (H : Heap) (locs : List Loc) (ls : Array Slot), mm_H G s σ H locs → lv_has ls 5 [(0, .ref h0), (1, .int x1)] → itn (s_X2_rebuilds h0) n (.inr (.inl (x1, σ))) = some σf → W p l e rm_X2_rebuilds s m av below meth c H locs 0 0 (MQ below (mm_Qv G σf) av s 0 0 (mm_A G)) (F0 m 24 ls [])) ∧ (∀ (x1 : Int32) (x2 : Int32) (x3 : Int32) (σ : mm_M) (H : Heap) (locs : List Loc) (ls : Array Slot), mm_H G s σ H locs → lv_has ls 5 [(0, .ref h0), (1, .int x1), (2, .int x2), (3, .int x3)] → itn (s_X2_rebuilds h0) n (.inr (.inr (.inl (x1, x2, x3, σ)))) = some σf → W p l e rm_X2_rebuilds s m av below meth c H locs 0 0 (MQ below (mm_Qv G σf) av s 0 0 (mm_A G)) (F0 m 147 ls [])) ∧ (∀ (x1 : Int32) (σ : mm_M) (H : Heap) (locs : List Loc) (ls : Array Slot), mm_H G s σ H locs → lv_has ls 5 [(0, .ref h0), (1, .int x1)] → itn (s_X2_rebuilds h0) n (.inr (.inr (.inr (x1, σ)))) = some σf → W p l e rm_X2_rebuilds s m av below meth c H locs 0 0 (MQ below (mm_Qv G σf) av s 0 0 (mm_A G)) (F0 m 224 ls [])) := by
  intro n
  induction n with
  | zero =>
    exact ⟨fun x1 σ H locs ls hH hl hf => (by cases hf), fun x1 σ H locs ls hH hl hf => (by cases hf), fun x1 x2 x3 σ H locs ls hH hl hf => (by cases hf), fun x1 σ H locs ls hH hl hf => (by cases hf)⟩
  | succ n ih =>
    obtain ⟨IH2, IH24, IH147, IH224⟩ := ih
    refine ⟨?_, ?_, ?_, ?_⟩
    · intro x1 σ H locs ls hH hl hf
      rw [itn_s] at hf
      exact w_X2_rebuilds_2 F hr hlocks hname IH2 IH24 IH147 IH224 x1 σ hf hH hl
    · intro x1 σ H locs ls hH hl hf
      rw [itn_s] at hf
      exact w_X2_rebuilds_24 F hr hlocks hname IH2 IH24 IH147 IH224 x1 σ hf hH hl
    · intro x1 x2 x3 σ H locs ls hH hl hf
      rw [itn_s] at hf
      exact w_X2_rebuilds_147 F hr hlocks hname IH2 IH24 IH147 IH224 x1 x2 x3 σ hf hH hl
    · intro x1 σ H locs ls hH hl hf
      rw [itn_s] at hf
      exact w_X2_rebuilds_224 F hr hlocks hname IH2 IH24 IH147 IH224 x1 σ hf hH hl
set_option maxHeartbeats 4000000 in
theorem m_X2_rebuilds (l : Launch) (G : mm_G) (h0 : Nat) (σ : mm_M) (σf : mm_M) (hf : f_X2_rebuilds h0 σ = some σf) : Met l yX2_rebuilds (ws_ yX2_rebuilds cX2_rebuilds 5 ((Option.none : Option Jvm.ClassFile.FieldType))) rm_X2_rebuilds (mm_Pc G [.ref h0] σ) (mm_Qv G σf) 0 0 (mm_A G) := by
  refine mm_met (by decide) rfl rfl (by  exact Nat.le_of_ble_eq_true rfl) (fun p e s m below meth c ls F hH hr hlocks hname hl => ?_)
  have hl : lv_has ls 5 [(0, .ref h0)] := by  exact hl
  have F : mm_F p s m _ c RX2 cX2_rebuilds 5 G := F
  unfold f_X2_rebuilds at hf
  obtain ⟨n, hf⟩ := lgo_i hf
  have IH := l_X2_rebuilds (l := l) (e := e) (below := below) (σf := σf) (h0 := h0) F hr hlocks hname n
  exact w_X2_rebuilds_0 F hr hlocks hname IH.1 IH.2.1 IH.2.2.1 IH.2.2.2 σ hf hH (lv_sub hl [0] rfl)
