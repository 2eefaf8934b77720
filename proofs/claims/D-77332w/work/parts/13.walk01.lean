/-! WALKS -/
set_option maxRecDepth 100000
/-! java/util/AbstractCollection.<init>()V -/
abbrev rm_J0_init : Room := { frames := 1, cells := 0, slots := 0, locals := 30 }
set_option maxHeartbeats 4000000 in
theorem m_J0_init (l : Launch) (G : mm_G) (h0 : Nat) (σ : mm_M) (σf : mm_M) (hf : f_J0_init h0 σ = some σf) : Met l yJ0_init (ws_ yJ0_init cJ0_init 1 ((Option.none : Option Jvm.ClassFile.FieldType))) rm_J0_init (mm_Pc G [.ref h0] σ) (mm_Qv G σf) 0 0 (mm_A G) := by
  refine mm_met (by decide) rfl rfl (by  exact Nat.le_of_ble_eq_true rfl) (fun p e s m below meth c ls F hH hr hlocks hname hl => ?_)
  have hl : lv_has ls 1 [(0, .ref h0)] := by  exact hl
  have F : mm_F p s m _ c RJ0 cJ0_init 1 G := F
  have hx := F.1
  have hb := F.2.1
  have hml := F.2.2.1
  have hown := F.2.2.2.1
  have hts := F.2.2.2.2.1
  unfold f_J0_init at hf
  refine lv_aload_n hx hb dJ0_init_0 rfl (lv_at hl 0 rfl) ?_
  refine W.objInit hx hb hown (hts _ q115) (hts _ q96) (hts _ q97) rfl (hl.1.trans hml.symm) rfl dJ0_init_1 (Nat.le_of_ble_eq_true rfl) (Nat.le_of_ble_eq_true rfl) ?_
  refine W.eq (g2 := F0 m 4 ls []) rfl ?_
  have h1 := Option.some.inj hf
  subst h1
  exact mm_retv F hH hr hlocks dJ0_init_4
/-! java/util/AbstractList.<init>()V -/
abbrev rm_J1_init : Room := { frames := 2, cells := 0, slots := 0, locals := 50 }
set_option maxHeartbeats 4000000 in
theorem m_J1_init (l : Launch) (G : mm_G) (h0 : Nat) (σ : mm_M) (σf : mm_M) (hf : f_J1_init h0 σ = some σf) : Met l yJ1_init (ws_ yJ1_init cJ1_init 1 ((Option.none : Option Jvm.ClassFile.FieldType))) rm_J1_init (mm_Pc G [.ref h0] σ) (mm_Qv G σf) 0 0 (mm_A G) := by
  refine mm_met (by decide) rfl rfl (by  exact Nat.le_of_ble_eq_true rfl) (fun p e s m below meth c ls F hH hr hlocks hname hl => ?_)
  have hl : lv_has ls 1 [(0, .ref h0)] := by  exact hl
  have F : mm_F p s m _ c RJ1 cJ1_init 1 G := F
  have hx := F.1
  have hb := F.2.1
  have hml := F.2.2.1
  have hown := F.2.2.2.1
  have hts := F.2.2.2.2.1
  unfold f_J1_init at hf
  refine lv_aload_n hx hb dJ1_init_0 rfl (lv_at hl 0 rfl) ?_
  replace hf := b1_i hf
  obtain ⟨σ1, e1, hf⟩ := hf
  refine mm_cv (va_runI (As := []) (rest := []) ⟨hx, hb, hml, hown, hts⟩ (m_J0_init l G h0 σ σ1 e1) (cwI 0 hts (lw_meth q114) rfl rfl rfl (hts _ q64) (hts _ q112) (hts _ q113) rfl (by decide +kernel) ⟨Nat.le_of_ble_eq_true rfl, Nat.le_of_ble_eq_true rfl⟩) (mm_preS F.2.2.2.2.2 hH) rfl rfl hl.1 rfl (lv_room (Nat.le_of_ble_eq_true rfl)) dJ1_init_1 ⟨Nat.le_of_ble_eq_true rfl, Nat.le_of_ble_eq_true rfl⟩) hH (fun H locs hH => ?_)
  refine lv_aload_n hx hb dJ1_init_4 rfl (lv_at hl 0 rfl) ?_
  refine lv_iconst (v := 0) hx hb dJ1_init_5 (by decide) ?_
  replace hf := b1_i hf
  obtain ⟨σ2, e2, hf⟩ := hf
  refine mm_put F hH mc_15 (k := 0) (v := vI (0 : Int32)) (by decide) (hts _ q120) (fun _ h => h) rfl rfl rfl e2 dJ1_init_6 (fun H locs hH => ?_)
  have h1 := Option.some.inj hf
  subst h1
  exact mm_retv F hH hr hlocks dJ1_init_9
/-! java/util/ArrayList.<init>()V -/
abbrev rm_J2_init : Room := { frames := 3, cells := 0, slots := 0, locals := 70 }
set_option maxHeartbeats 4000000 in
theorem m_J2_init (l : Launch) (G : mm_G) (h0 : Nat) (σ : mm_M) (σf : mm_M) (hf : f_J2_init h0 σ = some σf) : Met l yJ2_init (ws_ yJ2_init cJ2_init 1 ((Option.none : Option Jvm.ClassFile.FieldType))) rm_J2_init (mm_Pc G [.ref h0] σ) (mm_Qv G σf) 0 0 (mm_A G) := by
  refine mm_met (by decide) rfl rfl (by  exact Nat.le_of_ble_eq_true rfl) (fun p e s m below meth c ls F hH hr hlocks hname hl => ?_)
  have hl : lv_has ls 1 [(0, .ref h0)] := by  exact hl
  have F : mm_F p s m _ c RJ2 cJ2_init 1 G := F
  have hx := F.1
  have hb := F.2.1
  have hml := F.2.2.1
  have hown := F.2.2.2.1
  have hts := F.2.2.2.2.1
  unfold f_J2_init at hf
  refine lv_aload_n hx hb dJ2_init_0 rfl (lv_at hl 0 rfl) ?_
  replace hf := b1_i hf
  obtain ⟨σ1, e1, hf⟩ := hf
  refine mm_cv (va_runI (As := []) (rest := []) ⟨hx, hb, hml, hown, hts⟩ (m_J1_init l G h0 σ σ1 e1) (cwI 0 hts (lw_meth q111) rfl rfl rfl (hts _ q65) (hts _ q109) (hts _ q110) rfl (by decide +kernel) ⟨Nat.le_of_ble_eq_true rfl, Nat.le_of_ble_eq_true rfl⟩) (mm_preS F.2.2.2.2.2 hH) rfl rfl hl.1 rfl (lv_room (Nat.le_of_ble_eq_true rfl)) dJ2_init_1 ⟨Nat.le_of_ble_eq_true rfl, Nat.le_of_ble_eq_true rfl⟩) hH (fun H locs hH => ?_)
  refine lv_aload_n hx hb dJ2_init_4 rfl (lv_at hl 0 rfl) ?_
  refine mm_gete F hH (hts _ q116) dJ2_init_5 ?_
  replace hf := b1_i hf
  obtain ⟨σ2, e2, hf⟩ := hf
  refine mm_put F hH mc_15 (k := 1) (v := vR (some σ1.2.2.1)) (by decide) (hts _ q118) (fun _ h => h) rfl rfl rfl e2 dJ2_init_8 (fun H locs hH => ?_)
  have h1 := Option.some.inj hf
  subst h1
  exact mm_retv F hH hr hlocks dJ2_init_11
/-! java/util/ArrayList.size()I -/
abbrev rm_J2_size : Room := { frames := 0, cells := 0, slots := 0, locals := 0 }
set_option maxHeartbeats 4000000 in
theorem m_J2_size (l : Launch) (G : mm_G) (h0 : Nat) (σ : mm_M) (rr : Int32) (hf : f_J2_size h0 σ = some rr) : Met l yJ2_size (ws_ yJ2_size cJ2_size 1 ((Option.some .int))) rm_J2_size (mm_Pc G [.ref h0] σ) (mm_Qi G rr σ) 0 0 (mm_A G) := by
  refine mm_met (by decide) rfl rfl (by  exact Nat.le_of_ble_eq_true rfl) (fun p e s m below meth c ls F hH hr hlocks hname hl => ?_)
  have hl : lv_has ls 1 [(0, .ref h0)] := by  exact hl
  have F : mm_F p s m _ c RJ2 cJ2_size 1 G := F
  have hx := F.1
  have hb := F.2.1
  have hml := F.2.2.1
  have hown := F.2.2.2.1
  have hts := F.2.2.2.2.1
  unfold f_J2_size at hf
  refine lv_aload_n hx hb dJ2_size_0 rfl (lv_at hl 0 rfl) ?_
  replace hf := b1_i hf
  obtain ⟨v1, e1, hf⟩ := hf
  refine mm_getI F hH mc_15 (k := 2) (by decide) (hts _ q119) (fun _ h => h) e1 dJ2_size_1 ?_
  have h1 := Option.some.inj hf
  subst h1
  exact mm_reti F hH hr hlocks rfl rfl dJ2_size_4
/-! jdk/internal/util/Preconditions.checkIndex(IILjava/util/function/BiFunction;)I -/
abbrev rm_J4_checkIndex : Room := { frames := 0, cells := 0, slots := 0, locals := 0 }
set_option maxHeartbeats 4000000 in
theorem m_J4_checkIndex (l : Launch) (G : mm_G) (x0 : Int32) (x1 : Int32) (r2 : Option Nat) (σ : mm_M) (rr : Int32) (hf : f_J4_checkIndex x0 x1 r2 σ = some rr) : Met l yJ4_checkIndex (ws_ yJ4_checkIndex cJ4_checkIndex 3 ((Option.some .int))) rm_J4_checkIndex (mm_Pc G [.int x0, .int x1, va_rf r2] σ) (mm_Qi G rr σ) 0 0 (mm_A G) := by
  refine mm_met (by decide) rfl rfl (by cases r2 <;> exact Nat.le_of_ble_eq_true rfl) (fun p e s m below meth c ls F hH hr hlocks hname hl => ?_)
  have hl : lv_has ls 3 [(0, .int x0), (1, .int x1), (2, va_rf r2)] := by cases r2 <;> exact hl
  have F : mm_F p s m _ c RJ4 cJ4_checkIndex 3 G := F
  have hx := F.1
  have hb := F.2.1
  have hml := F.2.2.1
  have hown := F.2.2.2.1
  have hts := F.2.2.2.2.1
  unfold f_J4_checkIndex at hf
  refine lv_iload_n hx hb dJ4_checkIndex_0 rfl (lv_at hl 0 rfl) ?_
  refine lv_if_lt (tgt := 9) hx hb dJ4_checkIndex_1 (by decide) (fun c1 => ?_) (fun c1 => ?_)
  · rw [if_pos c1] at hf
    refine mm_aload_n (r := r2) hx hb dJ4_checkIndex_9 rfl (lv_at hl 2 rfl) ?_
    refine lv_iload_n hx hb dJ4_checkIndex_10 rfl (lv_at hl 0 rfl) ?_
    refine lv_iload_n hx hb dJ4_checkIndex_11 rfl (lv_at hl 1 rfl) ?_
    cases hf
  · rw [if_neg c1] at hf
    refine lv_iload_n hx hb dJ4_checkIndex_4 rfl (lv_at hl 0 rfl) ?_
    refine lv_iload_n hx hb dJ4_checkIndex_5 rfl (lv_at hl 1 rfl) ?_
    refine lv_icmp_lt (tgt := 16) hx hb dJ4_checkIndex_6 (by decide) (fun c2 => ?_) (fun c2 => ?_)
    · rw [if_pos c2] at hf
      refine lv_iload_n hx hb dJ4_checkIndex_16 rfl (lv_at hl 0 rfl) ?_
      have h1 := Option.some.inj hf
      subst h1
      exact mm_reti F hH hr hlocks rfl rfl dJ4_checkIndex_17
    · rw [if_neg c2] at hf
      refine mm_aload_n (r := r2) hx hb dJ4_checkIndex_9 rfl (lv_at hl 2 rfl) ?_
      refine lv_iload_n hx hb dJ4_checkIndex_10 rfl (lv_at hl 0 rfl) ?_
      refine lv_iload_n hx hb dJ4_checkIndex_11 rfl (lv_at hl 1 rfl) ?_
      cases hf
/-! java/util/Objects.checkIndex(II)I -/
abbrev rm_J3_checkIndex : Room := { frames := 1, cells := 0, slots := 0, locals := 22 }
set_option maxHeartbeats 4000000 in
theorem m_J3_checkIndex (l : Launch) (G : mm_G) (x0 : Int32) (x1 : Int32) (σ : mm_M) (rr : Int32) (hf : f_J3_checkIndex x0 x1 σ = some rr) : Met l yJ3_checkIndex (ws_ yJ3_checkIndex cJ3_checkIndex 2 ((Option.some .int))) rm_J3_checkIndex (mm_Pc G [.int x0, .int x1] σ) (mm_Qi G rr σ) 0 0 (mm_A G) := by
  refine mm_met (by decide) rfl rfl (by  exact Nat.le_of_ble_eq_true rfl) (fun p e s m below meth c ls F hH hr hlocks hname hl => ?_)
  have hl : lv_has ls 2 [(0, .int x0), (1, .int x1)] := by  exact hl
  have F : mm_F p s m _ c RJ3 cJ3_checkIndex 2 G := F
  have hx := F.1
  have hb := F.2.1
  have hml := F.2.2.1
  have hown := F.2.2.2.1
  have hts := F.2.2.2.2.1
  unfold f_J3_checkIndex at hf
  refine lv_iload_n hx hb dJ3_checkIndex_0 rfl (lv_at hl 0 rfl) ?_
  refine lv_iload_n hx hb dJ3_checkIndex_1 rfl (lv_at hl 1 rfl) ?_
  refine lv_null hx hb dJ3_checkIndex_2 ?_
  replace hf := b1_i hf
  obtain ⟨v1, e1, hf⟩ := hf
  refine mm_ci (va_runS (As := [.int x0, .int x1, va_rf none]) (rest := []) ⟨hx, hb, hml, hown, hts⟩ (m_J4_checkIndex l G x0 x1 none σ v1 e1) (va_cwS 3 hts (lw_S q301 q302 q70 q303) rfl rfl rfl (by decide +kernel) ⟨Nat.le_of_ble_eq_true rfl, Nat.le_of_ble_eq_true rfl⟩) (mm_preS F.2.2.2.2.2 hH) rfl rfl hl.1 rfl (lv_room (Nat.le_of_ble_eq_true rfl)) dJ3_checkIndex_3 ⟨Nat.le_of_ble_eq_true rfl, Nat.le_of_ble_eq_true rfl⟩) hH (fun H locs hH => ?_)
  have h1 := Option.some.inj hf
  subst h1
  exact mm_reti F hH hr hlocks rfl rfl dJ3_checkIndex_6
/-! java/util/ArrayList.elementData(I)Ljava/lang/Object; -/
abbrev rm_J2_elementData : Room := { frames := 0, cells := 0, slots := 0, locals := 0 }
set_option maxHeartbeats 4000000 in
theorem m_J2_elementData (l : Launch) (G : mm_G) (h0 : Nat) (x1 : Int32) (σ : mm_M) (rr : Option Nat) (hf : f_J2_elementData h0 x1 σ = some rr) : Met l yJ2_elementData (ws_ yJ2_elementData cJ2_elementData 2 ((Option.some (.object "java/lang/Object")))) rm_J2_elementData (mm_Pc G [.ref h0, .int x1] σ) (mm_Qq G rr σ) 0 0 (mm_A G) := by
  refine mm_met (by decide) rfl rfl (by  exact Nat.le_of_ble_eq_true rfl) (fun p e s m below meth c ls F hH hr hlocks hname hl => ?_)
  have hl : lv_has ls 2 [(0, .ref h0), (1, .int x1)] := by  exact hl
  have F : mm_F p s m _ c RJ2 cJ2_elementData 2 G := F
  have hx := F.1
  have hb := F.2.1
  have hml := F.2.2.1
  have hown := F.2.2.2.1
  have hts := F.2.2.2.2.1
  unfold f_J2_elementData at hf
  refine lv_aload_n hx hb dJ2_elementData_0 rfl (lv_at hl 0 rfl) ?_
  replace hf := b1_i hf
  obtain ⟨q1, e1, hf⟩ := hf
  refine mm_getA F hH mc_15 (k := 1) (by decide) (hts _ q118) (fun _ h => h) e1 dJ2_elementData_1 ?_
  refine lv_iload_n hx hb dJ2_elementData_4 rfl (lv_at hl 1 rfl) ?_
  replace hf := b1_i hf
  obtain ⟨p2, e2, hf⟩ := hf
  refine mm_aald F hH (k := 5) (by decide) e2 dJ2_elementData_5 ?_
  have h1 := Option.some.inj hf
  subst h1
  exact mm_retq (v := p2) F hH hr hlocks (Or.inl ⟨_, rfl⟩) rfl dJ2_elementData_6
/-! java/util/ArrayList.get(I)Ljava/lang/Object; -/
abbrev rm_J2_get : Room := { frames := 2, cells := 0, slots := 0, locals := 43 }
set_option maxHeartbeats 4000000 in
theorem m_J2_get (l : Launch) (G : mm_G) (h0 : Nat) (x1 : Int32) (σ : mm_M) (rr : Option Nat) (hf : f_J2_get h0 x1 σ = some rr) : Met l yJ2_get (ws_ yJ2_get cJ2_get 2 ((Option.some (.object "java/lang/Object")))) rm_J2_get (mm_Pc G [.ref h0, .int x1] σ) (mm_Qq G rr σ) 0 0 (mm_A G) := by
  refine mm_met (by decide) rfl rfl (by  exact Nat.le_of_ble_eq_true rfl) (fun p e s m below meth c ls F hH hr hlocks hname hl => ?_)
  have hl : lv_has ls 2 [(0, .ref h0), (1, .int x1)] := by  exact hl
  have F : mm_F p s m _ c RJ2 cJ2_get 2 G := F
  have hx := F.1
  have hb := F.2.1
  have hml := F.2.2.1
  have hown := F.2.2.2.1
  have hts := F.2.2.2.2.1
  unfold f_J2_get at hf
  refine lv_iload_n hx hb dJ2_get_0 rfl (lv_at hl 1 rfl) ?_
  refine lv_aload_n hx hb dJ2_get_1 rfl (lv_at hl 0 rfl) ?_
  replace hf := b1_i hf
  obtain ⟨v1, e1, hf⟩ := hf
  refine mm_getI F hH mc_15 (k := 2) (by decide) (hts _ q119) (fun _ h => h) e1 dJ2_get_2 ?_
  replace hf := b1_i hf
  obtain ⟨v2, e2, hf⟩ := hf
  refine mm_ci (va_runS (As := [.int x1, .int v1]) (rest := []) ⟨hx, hb, hml, hown, hts⟩ (m_J3_checkIndex l G x1 v1 σ v2 e2) (va_cwS 2 hts (lw_S q298 q299 q69 q300) rfl rfl rfl (by decide +kernel) ⟨Nat.le_of_ble_eq_true rfl, Nat.le_of_ble_eq_true rfl⟩) (mm_preS F.2.2.2.2.2 hH) rfl rfl hl.1 rfl (lv_room (Nat.le_of_ble_eq_true rfl)) dJ2_get_5 ⟨Nat.le_of_ble_eq_true rfl, Nat.le_of_ble_eq_true rfl⟩) hH (fun H locs hH => ?_)
  refine lv_pop hx hb dJ2_get_8 rfl ?_
  refine lv_aload_n hx hb dJ2_get_9 rfl (lv_at hl 0 rfl) ?_
  refine lv_iload_n hx hb dJ2_get_10 rfl (lv_at hl 1 rfl) ?_
  replace hf := b1_i hf
  obtain ⟨u, e3, hf⟩ := hf
  obtain ⟨fs, ek⟩ := ck_i e3
  replace hf := b1_i hf
  obtain ⟨p3, e4, hf⟩ := hf
  refine mm_cq (va_runV (As := [.int x1]) (rest := []) ⟨hx, hb, hml, hown, hts⟩ (m_J2_elementData l G h0 x1 σ p3 e4) (cwV 1 hts (lw_V q304 q305 q306 q66 q307) rfl rfl rfl (by decide +kernel) ⟨Nat.le_of_ble_eq_true rfl, Nat.le_of_ble_eq_true rfl⟩) (mm_preV F.2.2.2.2.2 hH (ci := 15) rfl ek) rfl rfl hl.1 rfl (lv_room (Nat.le_of_ble_eq_true rfl)) dJ2_get_11 ⟨Nat.le_of_ble_eq_true rfl, Nat.le_of_ble_eq_true rfl⟩) hH (fun H locs hH => ?_)
  have h1 := Option.some.inj hf
  subst h1
  exact mm_retq (v := p3) F hH hr hlocks (Or.inl ⟨_, rfl⟩) rfl dJ2_get_14
/-! java/util/ArrayList.rangeCheckForAdd(I)V -/
abbrev rm_J2_rangeCheckForAdd : Room := { frames := 0, cells := 0, slots := 0, locals := 0 }
set_option maxHeartbeats 4000000 in
theorem m_J2_rangeCheckForAdd (l : Launch) (G : mm_G) (h0 : Nat) (x1 : Int32) (σ : mm_M) (σf : mm_M) (hf : f_J2_rangeCheckForAdd h0 x1 σ = some σf) : Met l yJ2_rangeCheckForAdd (ws_ yJ2_rangeCheckForAdd cJ2_rangeCheckForAdd 2 ((Option.none : Option Jvm.ClassFile.FieldType))) rm_J2_rangeCheckForAdd (mm_Pc G [.ref h0, .int x1] σ) (mm_Qv G σf) 0 0 (mm_A G) := by
  refine mm_met (by decide) rfl rfl (by  exact Nat.le_of_ble_eq_true rfl) (fun p e s m below meth c ls F hH hr hlocks hname hl => ?_)
  have hl : lv_has ls 2 [(0, .ref h0), (1, .int x1)] := by  exact hl
  have F : mm_F p s m _ c RJ2 cJ2_rangeCheckForAdd 2 G := F
  have hx := F.1
  have hb := F.2.1
  have hml := F.2.2.1
  have hown := F.2.2.2.1
  have hts := F.2.2.2.2.1
  unfold f_J2_rangeCheckForAdd at hf
  refine lv_iload_n hx hb dJ2_rangeCheckForAdd_0 rfl (lv_at hl 1 rfl) ?_
  refine lv_aload_n hx hb dJ2_rangeCheckForAdd_1 rfl (lv_at hl 0 rfl) ?_
  replace hf := b1_i hf
  obtain ⟨v1, e1, hf⟩ := hf
  refine mm_getI F hH mc_15 (k := 2) (by decide) (hts _ q119) (fun _ h => h) e1 dJ2_rangeCheckForAdd_2 ?_
  refine lv_icmp_gt (tgt := 12) hx hb dJ2_rangeCheckForAdd_5 (by decide) (fun c2 => ?_) (fun c2 => ?_)
  · rw [if_pos c2] at hf
    cases hf
  · rw [if_neg c2] at hf
    refine lv_iload_n hx hb dJ2_rangeCheckForAdd_8 rfl (lv_at hl 1 rfl) ?_
    refine lv_if_ge (tgt := 25) hx hb dJ2_rangeCheckForAdd_9 (by decide) (fun c3 => ?_) (fun c3 => ?_)
    · rw [if_pos c3] at hf
      have h1 := Option.some.inj hf
      subst h1
      exact mm_retv F hH hr hlocks dJ2_rangeCheckForAdd_25
    · rw [if_neg c3] at hf
      cases hf
/-! jdk/internal/util/ArraysSupport.hugeLength(II)I -/
abbrev rm_J5_hugeLength : Room := { frames := 0, cells := 0, slots := 0, locals := 0 }
set_option maxHeartbeats 4000000 in
theorem m_J5_hugeLength (l : Launch) (G : mm_G) (x0 : Int32) (x1 : Int32) (σ : mm_M) (rr : Int32) (hf : f_J5_hugeLength x0 x1 σ = some rr) : Met l yJ5_hugeLength (ws_ yJ5_hugeLength cJ5_hugeLength 3 ((Option.some .int))) rm_J5_hugeLength (mm_Pc G [.int x0, .int x1] σ) (mm_Qi G rr σ) 0 0 (mm_A G) := by
  refine mm_met (by decide) rfl rfl (by  exact Nat.le_of_ble_eq_true rfl) (fun p e s m below meth c ls F hH hr hlocks hname hl => ?_)
  have hl : lv_has ls 3 [(0, .int x0), (1, .int x1)] := by  exact hl
  have F : mm_F p s m _ c RJ5 cJ5_hugeLength 3 G := F
  have hx := F.1
  have hb := F.2.1
  have hml := F.2.2.1
  have hown := F.2.2.2.1
  have hts := F.2.2.2.2.1
  unfold f_J5_hugeLength at hf
  refine lv_iload_n hx hb dJ5_hugeLength_0 rfl (lv_at hl 0 rfl) ?_
  refine lv_iload_n hx hb dJ5_hugeLength_1 rfl (lv_at hl 1 rfl) ?_
  refine lv_iadd hx hb dJ5_hugeLength_2 ?_
  refine lv_istore_n (lv' := [(2, .int (x0 + x1)), (0, .int x0), (1, .int x1)]) hx hb dJ5_hugeLength_3 rfl hl (by decide) rfl (fun ls hl => ?_)
  refine lv_iload_n hx hb dJ5_hugeLength_4 rfl (lv_at hl 0 rfl) ?_
  refine lv_if_ge (tgt := 49) hx hb dJ5_hugeLength_5 (by decide) (fun c1 => ?_) (fun c1 => ?_)
  · rw [if_pos c1] at hf
    refine lv_iload_n hx hb dJ5_hugeLength_49 rfl (lv_at hl 0 rfl) ?_
    refine lv_ldc (v := (2147483639)) hx hb hown (hts _ q330) dJ5_hugeLength_50 ?_
    refine lv_icmp_gt (tgt := 58) hx hb dJ5_hugeLength_52 (by decide) (fun c2 => ?_) (fun c2 => ?_)
    · rw [if_pos c2] at hf
      refine lv_iload_n hx hb dJ5_hugeLength_58 rfl (lv_at hl 0 rfl) ?_
      have h1 := Option.some.inj hf
      subst h1
      exact mm_reti F hH hr hlocks rfl rfl dJ5_hugeLength_59
    · rw [if_neg c2] at hf
      refine lv_ldc (v := (2147483639)) hx hb hown (hts _ q330) dJ5_hugeLength_55 ?_
      have h1 := Option.some.inj hf
      subst h1
      exact mm_reti F hH hr hlocks rfl rfl dJ5_hugeLength_57
  · rw [if_neg c1] at hf
    cases hf
/-! jdk/internal/util/ArraysSupport.newLength(III)I -/
abbrev rm_J5_newLength : Room := { frames := 1, cells := 0, slots := 0, locals := 30 }
set_option maxHeartbeats 4000000 in
theorem m_J5_newLength (l : Launch) (G : mm_G) (x0 : Int32) (x1 : Int32) (x2 : Int32) (σ : mm_M) (rr : Int32) (hf : f_J5_newLength x0 x1 x2 σ = some rr) : Met l yJ5_newLength (ws_ yJ5_newLength cJ5_newLength 4 ((Option.some .int))) rm_J5_newLength (mm_Pc G [.int x0, .int x1, .int x2] σ) (mm_Qi G rr σ) 0 0 (mm_A G) := by
  refine mm_met (by decide) rfl rfl (by  exact Nat.le_of_ble_eq_true rfl) (fun p e s m below meth c ls F hH hr hlocks hname hl => ?_)
  have hl : lv_has ls 4 [(0, .int x0), (1, .int x1), (2, .int x2)] := by  exact hl
  have F : mm_F p s m _ c RJ5 cJ5_newLength 4 G := F
  have hx := F.1
  have hb := F.2.1
  have hml := F.2.2.1
  have hown := F.2.2.2.1
  have hts := F.2.2.2.2.1
  unfold f_J5_newLength at hf
  refine lv_iload_n hx hb dJ5_newLength_0 rfl (lv_at hl 0 rfl) ?_
  refine lv_iload_n hx hb dJ5_newLength_1 rfl (lv_at hl 1 rfl) ?_
  refine lv_iload_n hx hb dJ5_newLength_2 rfl (lv_at hl 2 rfl) ?_
  refine va_mmax hx hb (hml.trans hl.1.symm) hown (hts _ q327) (hts _ q328) (hts _ q72) (hts _ q329) (Nat.le_of_ble_eq_true rfl) (Nat.le_of_ble_eq_true rfl) (Nat.le_of_ble_eq_true rfl) (Nat.le_of_ble_eq_true rfl) dJ5_newLength_3 ?_
  refine lv_iadd hx hb dJ5_newLength_6 ?_
  refine lv_istore_n (lv' := [(3, .int (x0 + (if x1 < x2 then x2 else x1))), (0, .int x0), (1, .int x1), (2, .int x2)]) hx hb dJ5_newLength_7 rfl hl (by decide) rfl (fun ls hl => ?_)
  refine lv_iconst (v := 0) hx hb dJ5_newLength_8 (by decide) ?_
  refine lv_iload_n hx hb dJ5_newLength_9 rfl (lv_at hl 0 rfl) ?_
  refine lv_icmp_ge (tgt := 21) hx hb dJ5_newLength_10 (by decide) (fun c1 => ?_) (fun c1 => ?_)
  · rw [if_pos c1] at hf
    refine lv_iload_n hx hb dJ5_newLength_21 rfl (lv_at hl 1 rfl) ?_
    refine lv_iload_n hx hb dJ5_newLength_22 rfl (lv_at hl 2 rfl) ?_
    replace hf := b1_i hf
    obtain ⟨v2, e1, hf⟩ := hf
    refine mm_ci (va_runS (As := [.int x0, .int x1]) (rest := []) ⟨hx, hb, hml, hown, hts⟩ (m_J5_hugeLength l G x0 x1 σ v2 e1) (va_cwS 2 hts (lw_S q331 q332 q71 q333) rfl rfl rfl (by decide +kernel) ⟨Nat.le_of_ble_eq_true rfl, Nat.le_of_ble_eq_true rfl⟩) (mm_preS F.2.2.2.2.2 hH) rfl rfl hl.1 rfl (lv_room (Nat.le_of_ble_eq_true rfl)) dJ5_newLength_23 ⟨Nat.le_of_ble_eq_true rfl, Nat.le_of_ble_eq_true rfl⟩) hH (fun H locs hH => ?_)
    have h1 := Option.some.inj hf
    subst h1
    exact mm_reti F hH hr hlocks rfl rfl dJ5_newLength_26
  · rw [if_neg c1] at hf
    refine lv_iload_n hx hb dJ5_newLength_13 rfl (lv_at hl 0 rfl) ?_
    refine lv_ldc (v := (2147483639)) hx hb hown (hts _ q330) dJ5_newLength_14 ?_
    refine lv_icmp_gt (tgt := 21) hx hb dJ5_newLength_16 (by decide) (fun c3 => ?_) (fun c3 => ?_)
    · rw [if_pos c3] at hf
      refine lv_iload_n hx hb dJ5_newLength_21 rfl (lv_at hl 1 rfl) ?_
      refine lv_iload_n hx hb dJ5_newLength_22 rfl (lv_at hl 2 rfl) ?_
      replace hf := b1_i hf
      obtain ⟨v4, e2, hf⟩ := hf
      refine mm_ci (va_runS (As := [.int x0, .int x1]) (rest := []) ⟨hx, hb, hml, hown, hts⟩ (m_J5_hugeLength l G x0 x1 σ v4 e2) (va_cwS 2 hts (lw_S q331 q332 q71 q333) rfl rfl rfl (by decide +kernel) ⟨Nat.le_of_ble_eq_true rfl, Nat.le_of_ble_eq_true rfl⟩) (mm_preS F.2.2.2.2.2 hH) rfl rfl hl.1 rfl (lv_room (Nat.le_of_ble_eq_true rfl)) dJ5_newLength_23 ⟨Nat.le_of_ble_eq_true rfl, Nat.le_of_ble_eq_true rfl⟩) hH (fun H locs hH => ?_)
      have h1 := Option.some.inj hf
      subst h1
      exact mm_reti F hH hr hlocks rfl rfl dJ5_newLength_26
    · rw [if_neg c3] at hf
      refine lv_iload_n hx hb dJ5_newLength_19 rfl (lv_at hl 0 rfl) ?_
      have h1 := Option.some.inj hf
      subst h1
      exact mm_reti F hH hr hlocks rfl rfl dJ5_newLength_20
/-! java/util/Arrays.copyOf([Ljava/lang/Object;ILjava/lang/Class;)[Ljava/lang/Object; -/
abbrev rm_J7_copyOf_2 : Room := { frames := 1, cells := 1, slots := 250, locals := 30 }
set_option maxHeartbeats 4000000 in
theorem w_J7_copyOf_2_24 {p : Program} {l : Launch} {e : Env} {s : State} {m : MethodId} {av : Array Value} {below : List Frame} {meth : Method} {c : Code} {G : mm_G} {σf : mm_M} {rr : Nat}  {a0 : Nat} {x1 : Int32} (F : mm_F p s m av c RJ7 cJ7_copyOf_2 4 G) (hr : meth.sig.returnType = (Option.some (.array (.object "java/lang/Object")))) (hlocks : meth.locks = false) (hname : meth.name = yJ7_copyOf_2.name)    (t0 : Nat) (σ : mm_M) (hf : g_J7_copyOf_2_24 a0 x1 t0 σ = some (rr, σf)) {H : Heap} {locs : List Loc} {ls : Array Slot} (hH : mm_H G s σ H locs) (hl : lv_has ls 4 [(0, .ref a0), (1, .int x1), (2, .ref G.2.2.2.2.2)]) : W p l e rm_J7_copyOf_2 s m av below meth c H locs 1 250 (MQ below (mm_Qq G (some rr) σf) av s 1 250 (mm_A G)) (F0 m 24 ls [.ref t0]) := by
  have hx := F.1
  have hb := F.2.1
  have hml := F.2.2.1
  have hown := F.2.2.2.1
  have hts := F.2.2.2.2.1
  unfold g_J7_copyOf_2_24 at hf
  refine lv_astore_n (lv' := [(3, .ref t0), (0, .ref a0), (1, .int x1), (2, .ref G.2.2.2.2.2)]) hx hb dJ7_copyOf_2_24 rfl hl (by decide) rfl (fun ls hl => ?_)
  refine lv_aload_n hx hb dJ7_copyOf_2_25 rfl (lv_at hl 1 rfl) ?_
  refine lv_iconst (v := 0) hx hb dJ7_copyOf_2_26 (by decide) ?_
  refine lv_aload_n hx hb dJ7_copyOf_2_27 rfl (lv_at hl 0 rfl) ?_
  refine lv_iconst (v := 0) hx hb dJ7_copyOf_2_28 (by decide) ?_
  refine lv_aload_n hx hb dJ7_copyOf_2_29 rfl (lv_at hl 1 rfl) ?_
  replace hf := b1_i hf
  obtain ⟨v1, e1, hf⟩ := hf
  refine mm_alen F hH e1 dJ7_copyOf_2_30 ?_
  refine lv_iload_n hx hb dJ7_copyOf_2_31 rfl (lv_at hl 2 rfl) ?_
  refine va_mmin hx hb (hml.trans hl.1.symm) hown (hts _ q371) (hts _ q372) (hts _ q72) (hts _ q373) (Nat.le_of_ble_eq_true rfl) (Nat.le_of_ble_eq_true rfl) (Nat.le_of_ble_eq_true rfl) (Nat.le_of_ble_eq_true rfl) dJ7_copyOf_2_32 ?_
  replace hf := b1_i hf
  obtain ⟨σ2, e2, hf⟩ := hf
  refine mm_copyR F hH (hml.trans hl.1.symm) (hts _ q374) (hts _ q376) (hts _ q375) (hts _ q74) (Nat.le_of_ble_eq_true rfl) (by decide) e2 dJ7_copyOf_2_35 (fun H locs hH => ?_)
  refine lv_aload_n hx hb dJ7_copyOf_2_38 rfl (lv_at hl 0 rfl) ?_
  obtain ⟨h1, h2⟩ := Prod.mk.inj (Option.some.inj hf)
  subst h1
  subst h2
  exact mm_retq (v := some t0) F hH hr hlocks (Or.inr ⟨_, rfl⟩) rfl dJ7_copyOf_2_39
set_option maxHeartbeats 4000000 in
theorem m_J7_copyOf_2 (l : Launch) (G : mm_G) (a0 : Nat) (x1 : Int32) (σ : mm_M) (σf : mm_M) (rr : Nat) (hf : f_J7_copyOf_2 a0 x1 σ = some (rr, σf)) : Met l yJ7_copyOf_2 (ws_ yJ7_copyOf_2 cJ7_copyOf_2 4 ((Option.some (.array (.object "java/lang/Object"))))) rm_J7_copyOf_2 (mm_Pc G [.ref a0, .int x1, .ref G.2.2.2.2.2] σ) (mm_Qq G (some rr) σf) 1 250 (mm_A G) := by
  refine mm_met (by decide) rfl rfl (by  exact Nat.le_of_ble_eq_true rfl) (fun p e s m below meth c ls F hH hr hlocks hname hl => ?_)
  have hl : lv_has ls 4 [(0, .ref a0), (1, .int x1), (2, .ref G.2.2.2.2.2)] := by  exact hl
  have F : mm_F p s m _ c RJ7 cJ7_copyOf_2 4 G := F
  have hx := F.1
  have hb := F.2.1
  have hml := F.2.2.1
  have hown := F.2.2.2.1
  have hts := F.2.2.2.2.1
  unfold f_J7_copyOf_2 at hf
  refine lv_aload_n hx hb dJ7_copyOf_2_0 rfl (lv_at hl 2 rfl) ?_
  refine va_ldcM (mi := G.2.2.2.2.2) hx hb hown (hts _ q368) F.2.2.2.2.2.2.2.2.2.1.1 dJ7_copyOf_2_1 ?_
  refine lv_acmp_ne (tgt := 13) (rx := some G.2.2.2.2.2) (ry := some G.2.2.2.2.2) hx hb dJ7_copyOf_2_3 (by decide) (fun c => absurd rfl c) (fun _ => ?_)
  refine lv_iload_n hx hb dJ7_copyOf_2_6 rfl (lv_at hl 1 rfl) ?_
  replace hf := b2_i hf
  obtain ⟨q2, σ1, e1, hf⟩ := hf
  refine mm_newq F hH (k := 5) (lim := 250) rfl F.2.2.2.2.2.2.2.1.2.2 (hts _ q370) (Nat.le_of_ble_eq_true rfl) (Nat.le_of_ble_eq_true rfl) (by decide) e1 dJ7_copyOf_2_7 (fun H hH => ?_)
  refine lv_goto (tgt := 24) hx hb dJ7_copyOf_2_10 (by decide) ?_
  exact w_J7_copyOf_2_24 F hr hlocks hname  q2 σ1 hf hH (lv_sub hl [0, 1, 2] rfl)
/-! java/util/Arrays.copyOf([Ljava/lang/Object;I)[Ljava/lang/Object; -/
abbrev rm_J7_copyOf : Room := { frames := 2, cells := 1, slots := 250, locals := 53 }
set_option maxHeartbeats 4000000 in
theorem m_J7_copyOf (l : Launch) (G : mm_G) (a0 : Nat) (x1 : Int32) (σ : mm_M) (σf : mm_M) (rr : Nat) (hf : f_J7_copyOf a0 x1 σ = some (rr, σf)) : Met l yJ7_copyOf (ws_ yJ7_copyOf cJ7_copyOf 2 ((Option.some (.array (.object "java/lang/Object"))))) rm_J7_copyOf (mm_Pc G [.ref a0, .int x1] σ) (mm_Qq G (some rr) σf) 1 250 (mm_A G) := by
  refine mm_met (by decide) rfl rfl (by  exact Nat.le_of_ble_eq_true rfl) (fun p e s m below meth c ls F hH hr hlocks hname hl => ?_)
  have hl : lv_has ls 2 [(0, .ref a0), (1, .int x1)] := by  exact hl
  have F : mm_F p s m _ c RJ7 cJ7_copyOf 2 G := F
  have hx := F.1
  have hb := F.2.1
  have hml := F.2.2.1
  have hown := F.2.2.2.1
  have hts := F.2.2.2.2.1
  unfold f_J7_copyOf at hf
  refine lv_aload_n hx hb dJ7_copyOf_0 rfl (lv_at hl 0 rfl) ?_
  refine lv_iload_n hx hb dJ7_copyOf_1 rfl (lv_at hl 1 rfl) ?_
  refine lv_aload_n hx hb dJ7_copyOf_2 rfl (lv_at hl 0 rfl) ?_
  replace hf := b1_i hf
  obtain ⟨u, e1, hf⟩ := hf
  refine mm_getC F hH (hml.trans hl.1.symm) (hts _ q337) (hts _ q1379) (hts _ q338) (hts _ q364) (Nat.le_of_ble_eq_true rfl) (Nat.le_of_ble_eq_true rfl) e1 dJ7_copyOf_3 ?_
  replace hf := b2_i hf
  obtain ⟨q1, σ2, e2, hf⟩ := hf
  refine mm_cq (va_runS (As := [.ref a0, .int x1, .ref G.2.2.2.2.2]) (rest := []) ⟨hx, hb, hml, hown, hts⟩ (m_J7_copyOf_2 l G a0 x1 σ σ2 q1 e2) (va_cwS 3 hts (lw_S q365 q366 q73 q367) rfl rfl rfl (by decide +kernel) ⟨Nat.le_of_ble_eq_true rfl, Nat.le_of_ble_eq_true rfl⟩) (mm_preS F.2.2.2.2.2 hH) rfl rfl hl.1 rfl (lv_room (Nat.le_of_ble_eq_true rfl)) dJ7_copyOf_6 ⟨Nat.le_of_ble_eq_true rfl, Nat.le_of_ble_eq_true rfl⟩) hH (fun H locs hH => ?_)
  obtain ⟨h1, h2⟩ := Prod.mk.inj (Option.some.inj hf)
  subst h1
  subst h2
  exact mm_retq (v := some q1) F hH hr hlocks (Or.inr ⟨_, rfl⟩) rfl dJ7_copyOf_9
/-! java/util/ArrayList.grow(I)[Ljava/lang/Object; -/
abbrev rm_J2_grow_2 : Room := { frames := 3, cells := 1, slots := 250, locals := 74 }
set_option maxHeartbeats 4000000 in
theorem w_J2_grow_2_20 {p : Program} {l : Launch} {e : Env} {s : State} {m : MethodId} {av : Array Value} {below : List Frame} {meth : Method} {c : Code} {G : mm_G} {σf : mm_M} {rr : Nat}  {h0 : Nat} {x1 : Int32} (F : mm_F p s m av c RJ2 cJ2_grow_2 4 G) (hr : meth.sig.returnType = (Option.some (.array (.object "java/lang/Object")))) (hlocks : meth.locks = false) (hname : meth.name = yJ2_grow_2.name)   (x2 : Int32)  (σ : mm_M) (hf : g_J2_grow_2_20 h0 x1 x2 σ = some (rr, σf)) {H : Heap} {locs : List Loc} {ls : Array Slot} (hH : mm_H G s σ H locs) (hl : lv_has ls 4 [(0, .ref h0), (1, .int x1), (2, .int x2)]) : W p l e rm_J2_grow_2 s m av below meth c H locs 0 0 (MQ below (mm_Qq G (some rr) σf) av s 1 250 (mm_A G)) (F0 m 20 ls []) := by
  have hx := F.1
  have hb := F.2.1
  have hml := F.2.2.1
  have hown := F.2.2.2.1
  have hts := F.2.2.2.2.1
  unfold g_J2_grow_2_20 at hf
  refine lv_iload_n hx hb dJ2_grow_2_20 rfl (lv_at hl 2 rfl) ?_
  refine lv_iload_n hx hb dJ2_grow_2_21 rfl (lv_at hl 1 rfl) ?_
  refine lv_iload_n hx hb dJ2_grow_2_22 rfl (lv_at hl 2 rfl) ?_
  refine lv_isub hx hb dJ2_grow_2_23 ?_
  refine lv_iload_n hx hb dJ2_grow_2_24 rfl (lv_at hl 2 rfl) ?_
  refine lv_iconst (v := 1) hx hb dJ2_grow_2_25 (by decide) ?_
  refine lv_ishr hx hb dJ2_grow_2_26 ?_
  replace hf := b1_i hf
  obtain ⟨v1, e1, hf⟩ := hf
  refine mm_ci (va_runS (As := [.int x2, .int (x1 - x2), .int (x2 >>> ((1 : Int32) &&& 31))]) (rest := []) ⟨hx, hb, hml, hown, hts⟩ (m_J5_newLength l G x2 (x1 - x2) (x2 >>> ((1 : Int32) &&& 31)) σ v1 e1) (va_cwS 3 hts (lw_S q324 q325 q71 q326) rfl rfl rfl (by decide +kernel) ⟨Nat.le_of_ble_eq_true rfl, Nat.le_of_ble_eq_true rfl⟩) (mm_preS F.2.2.2.2.2 hH) rfl rfl hl.1 rfl (lv_room (Nat.le_of_ble_eq_true rfl)) dJ2_grow_2_27 ⟨Nat.le_of_ble_eq_true rfl, Nat.le_of_ble_eq_true rfl⟩) hH (fun H locs hH => ?_)
  refine lv_istore_n (lv' := [(3, .int v1), (0, .ref h0), (1, .int x1), (2, .int x2)]) hx hb dJ2_grow_2_30 rfl hl (by decide) rfl (fun ls hl => ?_)
  refine lv_aload_n hx hb dJ2_grow_2_31 rfl (lv_at hl 1 rfl) ?_
  refine lv_aload_n hx hb dJ2_grow_2_32 rfl (lv_at hl 1 rfl) ?_
  replace hf := b1_i hf
  obtain ⟨q2, e2, hf⟩ := hf
  refine mm_getA F hH mc_15 (k := 1) (by decide) (hts _ q118) (fun _ h => h) e2 dJ2_grow_2_33 ?_
  refine lv_iload_n hx hb dJ2_grow_2_36 rfl (lv_at hl 0 rfl) ?_
  replace hf := b2_i hf
  obtain ⟨q3, σ4, e3, hf⟩ := hf
  refine mm_cq (va_runS (As := [.ref q2, .int v1]) (rest := [.ref h0]) ⟨hx, hb, hml, hown, hts⟩ (m_J7_copyOf l G q2 v1 σ σ4 q3 e3) (va_cwS 2 hts (lw_S q334 q335 q73 q336) rfl rfl rfl (by decide +kernel) ⟨Nat.le_of_ble_eq_true rfl, Nat.le_of_ble_eq_true rfl⟩) (mm_preS F.2.2.2.2.2 hH) rfl rfl hl.1 rfl (lv_room (Nat.le_of_ble_eq_true rfl)) dJ2_grow_2_37 ⟨Nat.le_of_ble_eq_true rfl, Nat.le_of_ble_eq_true rfl⟩) hH (fun H locs hH => ?_)
  refine lv_dup_x1 hx hb dJ2_grow_2_40 rfl rfl ?_
  replace hf := b1_i hf
  obtain ⟨σ5, e4, hf⟩ := hf
  refine mm_put F hH mc_15 (k := 1) (v := vR (some q3)) (by decide) (hts _ q118) (fun _ h => h) rfl rfl rfl e4 dJ2_grow_2_41 (fun H locs hH => ?_)
  obtain ⟨h1, h2⟩ := Prod.mk.inj (Option.some.inj hf)
  subst h1
  subst h2
  exact mm_retq (v := some q3) F hH hr hlocks (Or.inr ⟨_, rfl⟩) rfl dJ2_grow_2_44
set_option maxHeartbeats 4000000 in
theorem m_J2_grow_2 (l : Launch) (G : mm_G) (h0 : Nat) (x1 : Int32) (σ : mm_M) (σf : mm_M) (rr : Nat) (hf : f_J2_grow_2 h0 x1 σ = some (rr, σf)) : Met l yJ2_grow_2 (ws_ yJ2_grow_2 cJ2_grow_2 4 ((Option.some (.array (.object "java/lang/Object"))))) rm_J2_grow_2 (mm_Pc G [.ref h0, .int x1] σ) (mm_Qq G (some rr) σf) 1 250 (mm_A G) := by
  refine mm_met (by decide) rfl rfl (by  exact Nat.le_of_ble_eq_true rfl) (fun p e s m below meth c ls F hH hr hlocks hname hl => ?_)
  have hl : lv_has ls 4 [(0, .ref h0), (1, .int x1)] := by  exact hl
  have F : mm_F p s m _ c RJ2 cJ2_grow_2 4 G := F
  have hx := F.1
  have hb := F.2.1
  have hml := F.2.2.1
  have hown := F.2.2.2.1
  have hts := F.2.2.2.2.1
  unfold f_J2_grow_2 at hf
  refine lv_aload_n hx hb dJ2_grow_2_0 rfl (lv_at hl 0 rfl) ?_
  replace hf := b1_i hf
  obtain ⟨q1, e1, hf⟩ := hf
  refine mm_getA F hH mc_15 (k := 1) (by decide) (hts _ q118) (fun _ h => h) e1 dJ2_grow_2_1 ?_
  replace hf := b1_i hf
  obtain ⟨v2, e2, hf⟩ := hf
  refine mm_alen F hH e2 dJ2_grow_2_4 ?_
  refine lv_istore_n (lv' := [(2, .int v2), (0, .ref h0), (1, .int x1)]) hx hb dJ2_grow_2_5 rfl hl (by decide) rfl (fun ls hl => ?_)
  refine lv_iload_n hx hb dJ2_grow_2_6 rfl (lv_at hl 0 rfl) ?_
  refine lv_if_gt (tgt := 20) hx hb dJ2_grow_2_7 (by decide) (fun c3 => ?_) (fun c3 => ?_)
  · rw [if_pos c3] at hf
    exact w_J2_grow_2_20 F hr hlocks hname  v2 σ hf hH (lv_sub hl [1, 2, 0] rfl)
  · rw [if_neg c3] at hf
    refine lv_aload_n hx hb dJ2_grow_2_10 rfl (lv_at hl 1 rfl) ?_
    replace hf := b1_i hf
    obtain ⟨q4, e3, hf⟩ := hf
    refine mm_getA F hH mc_15 (k := 1) (by decide) (hts _ q118) (fun _ h => h) e3 dJ2_grow_2_11 ?_
    refine mm_gete F hH (hts _ q116) dJ2_grow_2_14 ?_
    refine lv_acmp_eq (tgt := 45) (rx := (some q4)) (ry := (some σ.2.2.1)) hx hb dJ2_grow_2_17 (by decide) (fun c5 => ?_) (fun c5 => ?_)
    · rw [if_pos c5] at hf
      refine lv_aload_n hx hb dJ2_grow_2_45 rfl (lv_at hl 1 rfl) ?_
      refine lv_bipush (v := 10) hx hb dJ2_grow_2_46 (by decide) ?_
      refine lv_iload_n hx hb dJ2_grow_2_48 rfl (lv_at hl 2 rfl) ?_
      refine va_mmax hx hb (hml.trans hl.1.symm) hown (hts _ q377) (hts _ q328) (hts _ q72) (hts _ q329) (Nat.le_of_ble_eq_true rfl) (Nat.le_of_ble_eq_true rfl) (Nat.le_of_ble_eq_true rfl) (Nat.le_of_ble_eq_true rfl) dJ2_grow_2_49 ?_
      replace hf := b2_i hf
      obtain ⟨q7, σ6, e4, hf⟩ := hf
      refine mm_newq F hH (k := 5) (lim := 10) rfl F.2.2.2.2.2.2.2.1.2.2 (hts _ q378) (Nat.le_of_ble_eq_true rfl) (Nat.le_of_ble_eq_true rfl) (by decide) e4 dJ2_grow_2_52 (fun H hH => ?_)
      refine lv_dup_x1 hx hb dJ2_grow_2_55 rfl rfl ?_
      replace hf := b1_i hf
      obtain ⟨σ8, e5, hf⟩ := hf
      refine mm_put F hH mc_15 (k := 1) (v := vR (some q7)) (by decide) (hts _ q118) (fun _ h => h) rfl rfl rfl e5 dJ2_grow_2_56 (fun H locs hH => ?_)
      obtain ⟨h1, h2⟩ := Prod.mk.inj (Option.some.inj hf)
      subst h1
      subst h2
      refine W.widen (k := 1) (n := 250) (Nat.le_of_ble_eq_true rfl) (Nat.le_of_ble_eq_true rfl) ?_
      exact mm_retq (v := some q7) F hH hr hlocks (Or.inr ⟨_, rfl⟩) rfl dJ2_grow_2_59
    · rw [if_neg c5] at hf
      exact w_J2_grow_2_20 F hr hlocks hname  v2 σ hf hH (lv_sub hl [1, 2, 0] rfl)
/-! java/util/ArrayList.grow()[Ljava/lang/Object; -/
abbrev rm_J2_grow : Room := { frames := 4, cells := 1, slots := 250, locals := 97 }
set_option maxHeartbeats 4000000 in
theorem m_J2_grow (l : Launch) (G : mm_G) (h0 : Nat) (σ : mm_M) (σf : mm_M) (rr : Nat) (hf : f_J2_grow h0 σ = some (rr, σf)) : Met l yJ2_grow (ws_ yJ2_grow cJ2_grow 1 ((Option.some (.array (.object "java/lang/Object"))))) rm_J2_grow (mm_Pc G [.ref h0] σ) (mm_Qq G (some rr) σf) 1 250 (mm_A G) := by
  refine mm_met (by decide) rfl rfl (by  exact Nat.le_of_ble_eq_true rfl) (fun p e s m below meth c ls F hH hr hlocks hname hl => ?_)
  have hl : lv_has ls 1 [(0, .ref h0)] := by  exact hl
  have F : mm_F p s m _ c RJ2 cJ2_grow 1 G := F
  have hx := F.1
  have hb := F.2.1
  have hml := F.2.2.1
  have hown := F.2.2.2.1
  have hts := F.2.2.2.2.1
  unfold f_J2_grow at hf
  refine lv_aload_n hx hb dJ2_grow_0 rfl (lv_at hl 0 rfl) ?_
  refine lv_aload_n hx hb dJ2_grow_1 rfl (lv_at hl 0 rfl) ?_
  replace hf := b1_i hf
  obtain ⟨v1, e1, hf⟩ := hf
  refine mm_getI F hH mc_15 (k := 2) (by decide) (hts _ q119) (fun _ h => h) e1 dJ2_grow_2 ?_
  refine lv_iconst (v := 1) hx hb dJ2_grow_5 (by decide) ?_
  refine lv_iadd hx hb dJ2_grow_6 ?_
  replace hf := b1_i hf
  obtain ⟨u, e2, hf⟩ := hf
  obtain ⟨fs, ek⟩ := ck_i e2
  replace hf := b2_i hf
  obtain ⟨q2, σ3, e3, hf⟩ := hf
  refine mm_cq (va_runV (As := [.int (v1 + (1 : Int32))]) (rest := []) ⟨hx, hb, hml, hown, hts⟩ (m_J2_grow_2 l G h0 (v1 + (1 : Int32)) σ σ3 q2 e3) (cwV 1 hts (lw_V q320 q322 qs3 q66 q323) rfl rfl rfl (by decide +kernel) ⟨Nat.le_of_ble_eq_true rfl, Nat.le_of_ble_eq_true rfl⟩) (mm_preV F.2.2.2.2.2 hH (ci := 15) rfl ek) rfl rfl hl.1 rfl (lv_room (Nat.le_of_ble_eq_true rfl)) dJ2_grow_7 ⟨Nat.le_of_ble_eq_true rfl, Nat.le_of_ble_eq_true rfl⟩) hH (fun H locs hH => ?_)
  obtain ⟨h1, h2⟩ := Prod.mk.inj (Option.some.inj hf)
  subst h1
  subst h2
  exact mm_retq (v := some q2) F hH hr hlocks (Or.inr ⟨_, rfl⟩) rfl dJ2_grow_10
/-! java/util/ArrayList.add(ILjava/lang/Object;)V -/
abbrev rm_J2_add : Room := { frames := 5, cells := 1, slots := 250, locals := 117 }
set_option maxHeartbeats 4000000 in
theorem w_J2_add_38 {p : Program} {l : Launch} {e : Env} {s : State} {m : MethodId} {av : Array Value} {below : List Frame} {meth : Method} {c : Code} {G : mm_G} {σf : mm_M}  {h0 : Nat} {x1 : Int32} {a2 : Nat} (F : mm_F p s m av c RJ2 cJ2_add 5 G) (hr : meth.sig.returnType = (Option.none : Option Jvm.ClassFile.FieldType)) (hlocks : meth.locks = false) (hname : meth.name = yJ2_add.name)   (x3 : Int32) (a4 : Nat)  (σ : mm_M) (hf : g_J2_add_38 h0 x1 a2 x3 a4 σ = some σf) {H : Heap} {locs : List Loc} {ls : Array Slot} (hH : mm_H G s σ H locs) (hl : lv_has ls 5 [(0, .ref h0), (1, .int x1), (2, .ref a2), (3, .int x3), (4, .ref a4)]) : W p l e rm_J2_add s m av below meth c H locs 1 250 (MQ below (mm_Qv G σf) av s 1 250 (mm_A G)) (F0 m 38 ls []) := by
  have hx := F.1
  have hb := F.2.1
  have hml := F.2.2.1
  have hown := F.2.2.2.1
  have hts := F.2.2.2.2.1
  unfold g_J2_add_38 at hf
  refine lv_aload hx hb dJ2_add_38 (lv_at hl 4 rfl) ?_
  refine lv_iload_n hx hb dJ2_add_40 rfl (lv_at hl 1 rfl) ?_
  refine lv_aload hx hb dJ2_add_41 (lv_at hl 4 rfl) ?_
  refine lv_iload_n hx hb dJ2_add_43 rfl (lv_at hl 1 rfl) ?_
  refine lv_iconst (v := 1) hx hb dJ2_add_44 (by decide) ?_
  refine lv_iadd hx hb dJ2_add_45 ?_
  refine lv_iload_n hx hb dJ2_add_46 rfl (lv_at hl 3 rfl) ?_
  refine lv_iload_n hx hb dJ2_add_47 rfl (lv_at hl 1 rfl) ?_
  refine lv_isub hx hb dJ2_add_48 ?_
  replace hf := b1_i hf
  obtain ⟨σ1, e1, hf⟩ := hf
  refine mm_copyR F hH (hml.trans hl.1.symm) (hts _ q379) (hts _ q376) (hts _ q375) (hts _ q74) (Nat.le_of_ble_eq_true rfl) (by decide) e1 dJ2_add_49 (fun H locs hH => ?_)
  refine lv_aload hx hb dJ2_add_52 (lv_at hl 4 rfl) ?_
  refine lv_iload_n hx hb dJ2_add_54 rfl (lv_at hl 1 rfl) ?_
  refine lv_aload_n hx hb dJ2_add_55 rfl (lv_at hl 2 rfl) ?_
  replace hf := b1_i hf
  obtain ⟨σ2, e2, hf⟩ := hf
  refine mm_aast F hH (k := 5) (by decide) e2 dJ2_add_56 (fun H locs hH => ?_)
  refine lv_aload_n hx hb dJ2_add_57 rfl (lv_at hl 0 rfl) ?_
  refine lv_iload_n hx hb dJ2_add_58 rfl (lv_at hl 3 rfl) ?_
  refine lv_iconst (v := 1) hx hb dJ2_add_59 (by decide) ?_
  refine lv_iadd hx hb dJ2_add_60 ?_
  replace hf := b1_i hf
  obtain ⟨σ3, e3, hf⟩ := hf
  refine mm_put F hH mc_15 (k := 2) (v := vI (x3 + (1 : Int32))) (by decide) (hts _ q119) (fun _ h => h) rfl rfl rfl e3 dJ2_add_61 (fun H locs hH => ?_)
  have h1 := Option.some.inj hf
  subst h1
  exact mm_retv F hH hr hlocks dJ2_add_64
set_option maxHeartbeats 4000000 in
theorem m_J2_add (l : Launch) (G : mm_G) (h0 : Nat) (x1 : Int32) (a2 : Nat) (σ : mm_M) (σf : mm_M) (hf : f_J2_add h0 x1 a2 σ = some σf) : Met l yJ2_add (ws_ yJ2_add cJ2_add 5 ((Option.none : Option Jvm.ClassFile.FieldType))) rm_J2_add (mm_Pc G [.ref h0, .int x1, .ref a2] σ) (mm_Qv G σf) 1 250 (mm_A G) := by
  refine mm_met (by decide) rfl rfl (by  exact Nat.le_of_ble_eq_true rfl) (fun p e s m below meth c ls F hH hr hlocks hname hl => ?_)
  have hl : lv_has ls 5 [(0, .ref h0), (1, .int x1), (2, .ref a2)] := by  exact hl
  have F : mm_F p s m _ c RJ2 cJ2_add 5 G := F
  have hx := F.1
  have hb := F.2.1
  have hml := F.2.2.1
  have hown := F.2.2.2.1
  have hts := F.2.2.2.2.1
  unfold f_J2_add at hf
  refine lv_aload_n hx hb dJ2_add_0 rfl (lv_at hl 0 rfl) ?_
  refine lv_iload_n hx hb dJ2_add_1 rfl (lv_at hl 1 rfl) ?_
  replace hf := b1_i hf
  obtain ⟨u, e1, hf⟩ := hf
  obtain ⟨fs, ek⟩ := ck_i e1
  replace hf := b1_i hf
  obtain ⟨σ1, e2, hf⟩ := hf
  refine mm_cv (va_runV (As := [.int x1]) (rest := []) ⟨hx, hb, hml, hown, hts⟩ (m_J2_rangeCheckForAdd l G h0 x1 σ σ1 e2) (cwV 1 hts (lw_V q312 q314 qs1 q66 q315) rfl rfl rfl (by decide +kernel) ⟨Nat.le_of_ble_eq_true rfl, Nat.le_of_ble_eq_true rfl⟩) (mm_preV F.2.2.2.2.2 hH (ci := 15) rfl ek) rfl rfl hl.1 rfl (lv_room (Nat.le_of_ble_eq_true rfl)) dJ2_add_2 ⟨Nat.le_of_ble_eq_true rfl, Nat.le_of_ble_eq_true rfl⟩) hH (fun H locs hH => ?_)
  refine lv_aload_n hx hb dJ2_add_5 rfl (lv_at hl 0 rfl) ?_
  refine lv_dup hx hb dJ2_add_6 rfl ?_
  replace hf := b1_i hf
  obtain ⟨v2, e3, hf⟩ := hf
  refine mm_getI F hH mc_15 (k := 0) (by decide) (hts _ q121) (u_same (hts _ q122)) e3 dJ2_add_7 ?_
  refine lv_iconst (v := 1) hx hb dJ2_add_10 (by decide) ?_
  refine lv_iadd hx hb dJ2_add_11 ?_
  replace hf := b1_i hf
  obtain ⟨σ3, e4, hf⟩ := hf
  refine mm_put F hH mc_15 (k := 0) (v := vI (v2 + (1 : Int32))) (by decide) (hts _ q121) (u_same (hts _ q122)) rfl rfl rfl e4 dJ2_add_12 (fun H locs hH => ?_)
  refine lv_aload_n hx hb dJ2_add_15 rfl (lv_at hl 0 rfl) ?_
  replace hf := b1_i hf
  obtain ⟨v4, e5, hf⟩ := hf
  refine mm_getI F hH mc_15 (k := 2) (by decide) (hts _ q119) (fun _ h => h) e5 dJ2_add_16 ?_
  refine lv_dup hx hb dJ2_add_19 rfl ?_
  refine lv_istore_n (lv' := [(3, .int v4), (0, .ref h0), (1, .int x1), (2, .ref a2)]) hx hb dJ2_add_20 rfl hl (by decide) rfl (fun ls hl => ?_)
  refine lv_aload_n hx hb dJ2_add_21 rfl (lv_at hl 1 rfl) ?_
  replace hf := b1_i hf
  obtain ⟨q5, e6, hf⟩ := hf
  refine mm_getA F hH mc_15 (k := 1) (by decide) (hts _ q118) (fun _ h => h) e6 dJ2_add_22 ?_
  refine lv_dup hx hb dJ2_add_25 rfl ?_
  refine lv_astore (lv' := [(4, .ref q5), (3, .int v4), (0, .ref h0), (1, .int x1), (2, .ref a2)]) hx hb dJ2_add_26 hl (by decide) rfl (fun ls hl => ?_)
  replace hf := b1_i hf
  obtain ⟨v6, e7, hf⟩ := hf
  refine mm_alen F hH e7 dJ2_add_28 ?_
  refine lv_icmp_ne (tgt := 38) hx hb dJ2_add_29 (by decide) (fun c7 => ?_) (fun c7 => ?_)
  · rw [if_neg c7] at hf
    refine W.widen (k := 1) (n := 250) (Nat.le_of_ble_eq_true rfl) (Nat.le_of_ble_eq_true rfl) ?_
    exact w_J2_add_38 F hr hlocks hname  v4 q5 σ3 hf hH (lv_sub hl [2, 3, 4, 1, 0] rfl)
  · rw [if_pos c7] at hf
    refine lv_aload_n hx hb dJ2_add_32 rfl (lv_at hl 2 rfl) ?_
    replace hf := b1_i hf
    obtain ⟨u, e8, hf⟩ := hf
    obtain ⟨fs, ek⟩ := ck_i e8
    replace hf := b2_i hf
    obtain ⟨q8, σ9, e9, hf⟩ := hf
    refine mm_cq (va_runV (As := []) (rest := []) ⟨hx, hb, hml, hown, hts⟩ (m_J2_grow l G h0 σ3 σ9 q8 e9) (cwV 0 hts (lw_V q316 q318 qs2 q66 q319) rfl rfl rfl (by decide +kernel) ⟨Nat.le_of_ble_eq_true rfl, Nat.le_of_ble_eq_true rfl⟩) (mm_preV F.2.2.2.2.2 hH (ci := 15) rfl ek) rfl rfl hl.1 rfl (lv_room (Nat.le_of_ble_eq_true rfl)) dJ2_add_33 ⟨Nat.le_of_ble_eq_true rfl, Nat.le_of_ble_eq_true rfl⟩) hH (fun H locs hH => ?_)
    refine lv_astore (lv' := [(4, .ref q8), (3, .int v4), (0, .ref h0), (1, .int x1), (2, .ref a2)]) hx hb dJ2_add_36 hl (by decide) rfl (fun ls hl => ?_)
    exact w_J2_add_38 F hr hlocks hname  v4 q8 σ9 hf hH (lv_sub hl [2, 3, 4, 1, 0] rfl)
/-! java/util/ArrayList.fastRemove([Ljava/lang/Object;I)V -/
abbrev rm_J2_fastRemove : Room := { frames := 1, cells := 0, slots := 0, locals := 30 }
set_option maxHeartbeats 4000000 in
theorem m_J2_fastRemove (l : Launch) (G : mm_G) (h0 : Nat) (a1 : Nat) (x2 : Int32) (σ : mm_M) (σf : mm_M) (hf : f_J2_fastRemove h0 a1 x2 σ = some σf) : Met l yJ2_fastRemove (ws_ yJ2_fastRemove cJ2_fastRemove 4 ((Option.none : Option Jvm.ClassFile.FieldType))) rm_J2_fastRemove (mm_Pc G [.ref h0, .ref a1, .int x2] σ) (mm_Qv G σf) 0 0 (mm_A G) := by
  refine mm_met (by decide) rfl rfl (by  exact Nat.le_of_ble_eq_true rfl) (fun p e s m below meth c ls F hH hr hlocks hname hl => ?_)
  have hl : lv_has ls 4 [(0, .ref h0), (1, .ref a1), (2, .int x2)] := by  exact hl
  have F : mm_F p s m _ c RJ2 cJ2_fastRemove 4 G := F
  have hx := F.1
  have hb := F.2.1
  have hml := F.2.2.1
  have hown := F.2.2.2.1
  have hts := F.2.2.2.2.1
  unfold f_J2_fastRemove at hf
  refine lv_aload_n hx hb dJ2_fastRemove_0 rfl (lv_at hl 0 rfl) ?_
  refine lv_dup hx hb dJ2_fastRemove_1 rfl ?_
  replace hf := b1_i hf
  obtain ⟨v1, e1, hf⟩ := hf
  refine mm_getI F hH mc_15 (k := 0) (by decide) (hts _ q121) (u_same (hts _ q122)) e1 dJ2_fastRemove_2 ?_
  refine lv_iconst (v := 1) hx hb dJ2_fastRemove_5 (by decide) ?_
  refine lv_iadd hx hb dJ2_fastRemove_6 ?_
  replace hf := b1_i hf
  obtain ⟨σ2, e2, hf⟩ := hf
  refine mm_put F hH mc_15 (k := 0) (v := vI (v1 + (1 : Int32))) (by decide) (hts _ q121) (u_same (hts _ q122)) rfl rfl rfl e2 dJ2_fastRemove_7 (fun H locs hH => ?_)
  refine lv_aload_n hx hb dJ2_fastRemove_10 rfl (lv_at hl 0 rfl) ?_
  replace hf := b1_i hf
  obtain ⟨v3, e3, hf⟩ := hf
  refine mm_getI F hH mc_15 (k := 2) (by decide) (hts _ q119) (fun _ h => h) e3 dJ2_fastRemove_11 ?_
  refine lv_iconst (v := 1) hx hb dJ2_fastRemove_14 (by decide) ?_
  refine lv_isub hx hb dJ2_fastRemove_15 ?_
  refine lv_dup hx hb dJ2_fastRemove_16 rfl ?_
  refine lv_istore_n (lv' := [(3, .int (v3 - (1 : Int32))), (0, .ref h0), (1, .ref a1), (2, .int x2)]) hx hb dJ2_fastRemove_17 rfl hl (by decide) rfl (fun ls hl => ?_)
  refine lv_iload_n hx hb dJ2_fastRemove_18 rfl (lv_at hl 3 rfl) ?_
  refine lv_icmp_le (tgt := 34) hx hb dJ2_fastRemove_19 (by decide) (fun c4 => ?_) (fun c4 => ?_)
  · rw [if_pos c4] at hf
    refine lv_aload_n hx hb dJ2_fastRemove_34 rfl (lv_at hl 2 rfl) ?_
    refine lv_aload_n hx hb dJ2_fastRemove_35 rfl (lv_at hl 1 rfl) ?_
    refine lv_iload_n hx hb dJ2_fastRemove_36 rfl (lv_at hl 0 rfl) ?_
    refine lv_dup_x1 hx hb dJ2_fastRemove_37 rfl rfl ?_
    replace hf := b1_i hf
    obtain ⟨σ5, e4, hf⟩ := hf
    refine mm_put F hH mc_15 (k := 2) (v := vI (v3 - (1 : Int32))) (by decide) (hts _ q119) (fun _ h => h) rfl rfl rfl e4 dJ2_fastRemove_38 (fun H locs hH => ?_)
    refine lv_null hx hb dJ2_fastRemove_41 ?_
    replace hf := b1_i hf
    obtain ⟨σ6, e5, hf⟩ := hf
    refine mm_aastN F hH (k := 5) (by decide) e5 dJ2_fastRemove_42 (fun H locs hH => ?_)
    have h1 := Option.some.inj hf
    subst h1
    exact mm_retv F hH hr hlocks dJ2_fastRemove_43
  · rw [if_neg c4] at hf
    refine lv_aload_n hx hb dJ2_fastRemove_22 rfl (lv_at hl 2 rfl) ?_
    refine lv_iload_n hx hb dJ2_fastRemove_23 rfl (lv_at hl 3 rfl) ?_
    refine lv_iconst (v := 1) hx hb dJ2_fastRemove_24 (by decide) ?_
    refine lv_iadd hx hb dJ2_fastRemove_25 ?_
    refine lv_aload_n hx hb dJ2_fastRemove_26 rfl (lv_at hl 2 rfl) ?_
    refine lv_iload_n hx hb dJ2_fastRemove_27 rfl (lv_at hl 3 rfl) ?_
    refine lv_iload_n hx hb dJ2_fastRemove_28 rfl (lv_at hl 0 rfl) ?_
    refine lv_iload_n hx hb dJ2_fastRemove_29 rfl (lv_at hl 3 rfl) ?_
    refine lv_isub hx hb dJ2_fastRemove_30 ?_
    replace hf := b1_i hf
    obtain ⟨σ7, e6, hf⟩ := hf
    refine mm_copyR F hH (hml.trans hl.1.symm) (hts _ q379) (hts _ q376) (hts _ q375) (hts _ q74) (Nat.le_of_ble_eq_true rfl) (by decide) e6 dJ2_fastRemove_31 (fun H locs hH => ?_)
    refine lv_aload_n hx hb dJ2_fastRemove_34 rfl (lv_at hl 2 rfl) ?_
    refine lv_aload_n hx hb dJ2_fastRemove_35 rfl (lv_at hl 1 rfl) ?_
    refine lv_iload_n hx hb dJ2_fastRemove_36 rfl (lv_at hl 0 rfl) ?_
    refine lv_dup_x1 hx hb dJ2_fastRemove_37 rfl rfl ?_
    replace hf := b1_i hf
    obtain ⟨σ8, e7, hf⟩ := hf
    refine mm_put F hH mc_15 (k := 2) (v := vI (v3 - (1 : Int32))) (by decide) (hts _ q119) (fun _ h => h) rfl rfl rfl e7 dJ2_fastRemove_38 (fun H locs hH => ?_)
    refine lv_null hx hb dJ2_fastRemove_41 ?_
    replace hf := b1_i hf
    obtain ⟨σ9, e8, hf⟩ := hf
    refine mm_aastN F hH (k := 5) (by decide) e8 dJ2_fastRemove_42 (fun H locs hH => ?_)
    have h1 := Option.some.inj hf
    subst h1
    exact mm_retv F hH hr hlocks dJ2_fastRemove_43
/-! java/util/ArrayList.remove(I)Ljava/lang/Object; -/
abbrev rm_J2_remove : Room := { frames := 2, cells := 0, slots := 0, locals := 53 }
set_option maxHeartbeats 4000000 in
theorem m_J2_remove (l : Launch) (G : mm_G) (h0 : Nat) (x1 : Int32) (σ : mm_M) (σf : mm_M) (rr : Option Nat) (hf : f_J2_remove h0 x1 σ = some (rr, σf)) : Met l yJ2_remove (ws_ yJ2_remove cJ2_remove 4 ((Option.some (.object "java/lang/Object")))) rm_J2_remove (mm_Pc G [.ref h0, .int x1] σ) (mm_Qq G rr σf) 0 0 (mm_A G) := by
  refine mm_met (by decide) rfl rfl (by  exact Nat.le_of_ble_eq_true rfl) (fun p e s m below meth c ls F hH hr hlocks hname hl => ?_)
  have hl : lv_has ls 4 [(0, .ref h0), (1, .int x1)] := by  exact hl
  have F : mm_F p s m _ c RJ2 cJ2_remove 4 G := F
  have hx := F.1
  have hb := F.2.1
  have hml := F.2.2.1
  have hown := F.2.2.2.1
  have hts := F.2.2.2.2.1
  unfold f_J2_remove at hf
  refine lv_iload_n hx hb dJ2_remove_0 rfl (lv_at hl 1 rfl) ?_
  refine lv_aload_n hx hb dJ2_remove_1 rfl (lv_at hl 0 rfl) ?_
  replace hf := b1_i hf
  obtain ⟨v1, e1, hf⟩ := hf
  refine mm_getI F hH mc_15 (k := 2) (by decide) (hts _ q119) (fun _ h => h) e1 dJ2_remove_2 ?_
  replace hf := b1_i hf
  obtain ⟨v2, e2, hf⟩ := hf
  refine mm_ci (va_runS (As := [.int x1, .int v1]) (rest := []) ⟨hx, hb, hml, hown, hts⟩ (m_J3_checkIndex l G x1 v1 σ v2 e2) (va_cwS 2 hts (lw_S q298 q299 q69 q300) rfl rfl rfl (by decide +kernel) ⟨Nat.le_of_ble_eq_true rfl, Nat.le_of_ble_eq_true rfl⟩) (mm_preS F.2.2.2.2.2 hH) rfl rfl hl.1 rfl (lv_room (Nat.le_of_ble_eq_true rfl)) dJ2_remove_5 ⟨Nat.le_of_ble_eq_true rfl, Nat.le_of_ble_eq_true rfl⟩) hH (fun H locs hH => ?_)
  refine lv_pop hx hb dJ2_remove_8 rfl ?_
  refine lv_aload_n hx hb dJ2_remove_9 rfl (lv_at hl 0 rfl) ?_
  replace hf := b1_i hf
  obtain ⟨q3, e3, hf⟩ := hf
  refine mm_getA F hH mc_15 (k := 1) (by decide) (hts _ q118) (fun _ h => h) e3 dJ2_remove_10 ?_
  refine lv_astore_n (lv' := [(2, .ref q3), (0, .ref h0), (1, .int x1)]) hx hb dJ2_remove_13 rfl hl (by decide) rfl (fun ls hl => ?_)
  refine lv_aload_n hx hb dJ2_remove_14 rfl (lv_at hl 0 rfl) ?_
  refine lv_iload_n hx hb dJ2_remove_15 rfl (lv_at hl 2 rfl) ?_
  replace hf := b1_i hf
  obtain ⟨p4, e4, hf⟩ := hf
  refine mm_aald F hH (k := 5) (by decide) e4 dJ2_remove_16 ?_
  refine mm_astore_n (r := p4) (lv' := [(3, va_rf p4), (2, .ref q3), (0, .ref h0), (1, .int x1)]) hx hb dJ2_remove_17 rfl hl (by decide) rfl (fun ls hl => ?_)
  refine lv_aload_n hx hb dJ2_remove_18 rfl (lv_at hl 2 rfl) ?_
  refine lv_aload_n hx hb dJ2_remove_19 rfl (lv_at hl 1 rfl) ?_
  refine lv_iload_n hx hb dJ2_remove_20 rfl (lv_at hl 3 rfl) ?_
  replace hf := b1_i hf
  obtain ⟨u, e5, hf⟩ := hf
  obtain ⟨fs, ek⟩ := ck_i e5
  replace hf := b1_i hf
  obtain ⟨σ5, e6, hf⟩ := hf
  refine mm_cv (va_runV (As := [.ref q3, .int x1]) (rest := []) ⟨hx, hb, hml, hown, hts⟩ (m_J2_fastRemove l G h0 q3 x1 σ σ5 e6) (cwV 2 hts (lw_V q628 q630 qs13 q66 q631) rfl rfl rfl (by decide +kernel) ⟨Nat.le_of_ble_eq_true rfl, Nat.le_of_ble_eq_true rfl⟩) (mm_preV F.2.2.2.2.2 hH (ci := 15) rfl ek) rfl rfl hl.1 rfl (lv_room (Nat.le_of_ble_eq_true rfl)) dJ2_remove_21 ⟨Nat.le_of_ble_eq_true rfl, Nat.le_of_ble_eq_true rfl⟩) hH (fun H locs hH => ?_)
  refine mm_aload_n (r := p4) hx hb dJ2_remove_24 rfl (lv_at hl 0 rfl) ?_
  obtain ⟨h1, h2⟩ := Prod.mk.inj (Option.some.inj hf)
  subst h1
  subst h2
  exact mm_retq (v := p4) F hH hr hlocks (Or.inl ⟨_, rfl⟩) rfl dJ2_remove_25
/-! java/util/ArrayList.add(Ljava/lang/Object;[Ljava/lang/Object;I)V -/
abbrev rm_J2_add_3 : Room := { frames := 5, cells := 1, slots := 250, locals := 117 }
set_option maxHeartbeats 4000000 in
theorem w_J2_add_3_11 {p : Program} {l : Launch} {e : Env} {s : State} {m : MethodId} {av : Array Value} {below : List Frame} {meth : Method} {c : Code} {G : mm_G} {σf : mm_M}  {h0 : Nat} {a1 : Nat} {x3 : Int32} (F : mm_F p s m av c RJ2 cJ2_add_3 4 G) (hr : meth.sig.returnType = (Option.none : Option Jvm.ClassFile.FieldType)) (hlocks : meth.locks = false) (hname : meth.name = yJ2_add_3.name)   (a2 : Nat)  (σ : mm_M) (hf : g_J2_add_3_11 h0 a1 x3 a2 σ = some σf) {H : Heap} {locs : List Loc} {ls : Array Slot} (hH : mm_H G s σ H locs) (hl : lv_has ls 4 [(0, .ref h0), (1, .ref a1), (3, .int x3), (2, .ref a2)]) : W p l e rm_J2_add_3 s m av below meth c H locs 1 250 (MQ below (mm_Qv G σf) av s 1 250 (mm_A G)) (F0 m 11 ls []) := by
  have hx := F.1
  have hb := F.2.1
  have hml := F.2.2.1
  have hown := F.2.2.2.1
  have hts := F.2.2.2.2.1
  unfold g_J2_add_3_11 at hf
  refine lv_aload_n hx hb dJ2_add_3_11 rfl (lv_at hl 3 rfl) ?_
  refine lv_iload_n hx hb dJ2_add_3_12 rfl (lv_at hl 2 rfl) ?_
  refine lv_aload_n hx hb dJ2_add_3_13 rfl (lv_at hl 1 rfl) ?_
  replace hf := b1_i hf
  obtain ⟨σ1, e1, hf⟩ := hf
  refine mm_aast F hH (k := 5) (by decide) e1 dJ2_add_3_14 (fun H locs hH => ?_)
  refine lv_aload_n hx hb dJ2_add_3_15 rfl (lv_at hl 0 rfl) ?_
  refine lv_iload_n hx hb dJ2_add_3_16 rfl (lv_at hl 2 rfl) ?_
  refine lv_iconst (v := 1) hx hb dJ2_add_3_17 (by decide) ?_
  refine lv_iadd hx hb dJ2_add_3_18 ?_
  replace hf := b1_i hf
  obtain ⟨σ2, e2, hf⟩ := hf
  refine mm_put F hH mc_15 (k := 2) (v := vI (x3 + (1 : Int32))) (by decide) (hts _ q119) (fun _ h => h) rfl rfl rfl e2 dJ2_add_3_19 (fun H locs hH => ?_)
  have h1 := Option.some.inj hf
  subst h1
  exact mm_retv F hH hr hlocks dJ2_add_3_22
set_option maxHeartbeats 4000000 in
theorem m_J2_add_3 (l : Launch) (G : mm_G) (h0 : Nat) (a1 : Nat) (a2 : Nat) (x3 : Int32) (σ : mm_M) (σf : mm_M) (hf : f_J2_add_3 h0 a1 a2 x3 σ = some σf) : Met l yJ2_add_3 (ws_ yJ2_add_3 cJ2_add_3 4 ((Option.none : Option Jvm.ClassFile.FieldType))) rm_J2_add_3 (mm_Pc G [.ref h0, .ref a1, .ref a2, .int x3] σ) (mm_Qv G σf) 1 250 (mm_A G) := by
  refine mm_met (by decide) rfl rfl (by  exact Nat.le_of_ble_eq_true rfl) (fun p e s m below meth c ls F hH hr hlocks hname hl => ?_)
  have hl : lv_has ls 4 [(0, .ref h0), (1, .ref a1), (2, .ref a2), (3, .int x3)] := by  exact hl
  have F : mm_F p s m _ c RJ2 cJ2_add_3 4 G := F
  have hx := F.1
  have hb := F.2.1
  have hml := F.2.2.1
  have hown := F.2.2.2.1
  have hts := F.2.2.2.2.1
  unfold f_J2_add_3 at hf
  refine lv_iload_n hx hb dJ2_add_3_0 rfl (lv_at hl 3 rfl) ?_
  refine lv_aload_n hx hb dJ2_add_3_1 rfl (lv_at hl 2 rfl) ?_
  replace hf := b1_i hf
  obtain ⟨v1, e1, hf⟩ := hf
  refine mm_alen F hH e1 dJ2_add_3_2 ?_
  refine lv_icmp_ne (tgt := 11) hx hb dJ2_add_3_3 (by decide) (fun c2 => ?_) (fun c2 => ?_)
  · rw [if_neg c2] at hf
    refine W.widen (k := 1) (n := 250) (Nat.le_of_ble_eq_true rfl) (Nat.le_of_ble_eq_true rfl) ?_
    exact w_J2_add_3_11 F hr hlocks hname  a2 σ hf hH (lv_sub hl [0, 1, 3, 2] rfl)
  · rw [if_pos c2] at hf
    refine lv_aload_n hx hb dJ2_add_3_6 rfl (lv_at hl 0 rfl) ?_
    replace hf := b1_i hf
    obtain ⟨u, e2, hf⟩ := hf
    obtain ⟨fs, ek⟩ := ck_i e2
    replace hf := b2_i hf
    obtain ⟨q3, σ4, e3, hf⟩ := hf
    refine mm_cq (va_runV (As := []) (rest := []) ⟨hx, hb, hml, hown, hts⟩ (m_J2_grow l G h0 σ σ4 q3 e3) (cwV 0 hts (lw_V q316 q318 qs2 q66 q319) rfl rfl rfl (by decide +kernel) ⟨Nat.le_of_ble_eq_true rfl, Nat.le_of_ble_eq_true rfl⟩) (mm_preV F.2.2.2.2.2 hH (ci := 15) rfl ek) rfl rfl hl.1 rfl (lv_room (Nat.le_of_ble_eq_true rfl)) dJ2_add_3_7 ⟨Nat.le_of_ble_eq_true rfl, Nat.le_of_ble_eq_true rfl⟩) hH (fun H locs hH => ?_)
    refine lv_astore_n (lv' := [(2, .ref q3), (0, .ref h0), (1, .ref a1), (3, .int x3)]) hx hb dJ2_add_3_10 rfl hl (by decide) rfl (fun ls hl => ?_)
    exact w_J2_add_3_11 F hr hlocks hname  q3 σ4 hf hH (lv_sub hl [1, 2, 3, 0] rfl)
/-! java/util/ArrayList.add(Ljava/lang/Object;)Z -/
abbrev rm_J2_add_2 : Room := { frames := 6, cells := 1, slots := 250, locals := 140 }
set_option maxHeartbeats 4000000 in
theorem m_J2_add_2 (l : Launch) (G : mm_G) (h0 : Nat) (a1 : Nat) (σ : mm_M) (σf : mm_M) (rr : Int32) (hf : f_J2_add_2 h0 a1 σ = some (rr, σf)) : Met l yJ2_add_2 (ws_ yJ2_add_2 cJ2_add_2 2 ((Option.some .boolean))) rm_J2_add_2 (mm_Pc G [.ref h0, .ref a1] σ) (mm_Qi G rr σf) 1 250 (mm_A G) := by
  refine mm_met (by decide) rfl rfl (by  exact Nat.le_of_ble_eq_true rfl) (fun p e s m below meth c ls F hH hr hlocks hname hl => ?_)
  have hl : lv_has ls 2 [(0, .ref h0), (1, .ref a1)] := by  exact hl
  have F : mm_F p s m _ c RJ2 cJ2_add_2 2 G := F
  have hx := F.1
  have hb := F.2.1
  have hml := F.2.2.1
  have hown := F.2.2.2.1
  have hts := F.2.2.2.2.1
  unfold f_J2_add_2 at hf
  refine lv_aload_n hx hb dJ2_add_2_0 rfl (lv_at hl 0 rfl) ?_
  refine lv_dup hx hb dJ2_add_2_1 rfl ?_
  replace hf := b1_i hf
  obtain ⟨v1, e1, hf⟩ := hf
  refine mm_getI F hH mc_15 (k := 0) (by decide) (hts _ q121) (u_same (hts _ q122)) e1 dJ2_add_2_2 ?_
  refine lv_iconst (v := 1) hx hb dJ2_add_2_5 (by decide) ?_
  refine lv_iadd hx hb dJ2_add_2_6 ?_
  replace hf := b1_i hf
  obtain ⟨σ2, e2, hf⟩ := hf
  refine mm_put F hH mc_15 (k := 0) (v := vI (v1 + (1 : Int32))) (by decide) (hts _ q121) (u_same (hts _ q122)) rfl rfl rfl e2 dJ2_add_2_7 (fun H locs hH => ?_)
  refine lv_aload_n hx hb dJ2_add_2_10 rfl (lv_at hl 0 rfl) ?_
  refine lv_aload_n hx hb dJ2_add_2_11 rfl (lv_at hl 1 rfl) ?_
  refine lv_aload_n hx hb dJ2_add_2_12 rfl (lv_at hl 0 rfl) ?_
  replace hf := b1_i hf
  obtain ⟨q3, e3, hf⟩ := hf
  refine mm_getA F hH mc_15 (k := 1) (by decide) (hts _ q118) (fun _ h => h) e3 dJ2_add_2_13 ?_
  refine lv_aload_n hx hb dJ2_add_2_16 rfl (lv_at hl 0 rfl) ?_
  replace hf := b1_i hf
  obtain ⟨v4, e4, hf⟩ := hf
  refine mm_getI F hH mc_15 (k := 2) (by decide) (hts _ q119) (fun _ h => h) e4 dJ2_add_2_17 ?_
  replace hf := b1_i hf
  obtain ⟨u, e5, hf⟩ := hf
  obtain ⟨fs, ek⟩ := ck_i e5
  replace hf := b1_i hf
  obtain ⟨σ5, e6, hf⟩ := hf
  refine mm_cv (va_runV (As := [.ref a1, .ref q3, .int v4]) (rest := []) ⟨hx, hb, hml, hown, hts⟩ (m_J2_add_3 l G h0 a1 q3 v4 σ2 σ5 e6) (cwV 3 hts (lw_V q928 q930 qs28 q66 q931) rfl rfl rfl (by decide +kernel) ⟨Nat.le_of_ble_eq_true rfl, Nat.le_of_ble_eq_true rfl⟩) (mm_preV F.2.2.2.2.2 hH (ci := 15) rfl ek) rfl rfl hl.1 rfl (lv_room (Nat.le_of_ble_eq_true rfl)) dJ2_add_2_20 ⟨Nat.le_of_ble_eq_true rfl, Nat.le_of_ble_eq_true rfl⟩) hH (fun H locs hH => ?_)
  refine lv_iconst (v := 1) hx hb dJ2_add_2_23 (by decide) ?_
  obtain ⟨h1, h2⟩ := Prod.mk.inj (Option.some.inj hf)
  subst h1
  subst h2
  exact mm_reti F hH hr hlocks rfl rfl dJ2_add_2_24
/-! java/lang/Throwable.<init>(Ljava/lang/String;Ljava/lang/Throwable;ZZ)V -/
abbrev rm_J8_init_2 : Room := { frames := 1, cells := 0, slots := 0, locals := 30 }
set_option maxHeartbeats 4000000 in
theorem w_J8_init_2_41 {p : Program} {l : Launch} {e : Env} {s : State} {m : MethodId} {av : Array Value} {below : List Frame} {meth : Method} {c : Code} {G : mm_G} {σf : mm_M}  {h0 : Nat} {r1 : Option Nat} {r2 : Option Nat} {x3 : Int32} {x4 : Int32} (F : mm_F p s m av c RJ8 cJ8_init_2 5 G) (hr : meth.sig.returnType = (Option.none : Option Jvm.ClassFile.FieldType)) (hlocks : meth.locks = false) (hname : meth.name = yJ8_init_2.name)     (σ : mm_M) (hf : g_J8_init_2_41 h0 r1 r2 x3 x4 σ = some σf) {H : Heap} {locs : List Loc} {ls : Array Slot} (hH : mm_H G s σ H locs) (hl : lv_has ls 5 [(0, .ref h0), (1, va_rf r1), (2, va_rf r2), (3, .int x3), (4, .int x4)]) : W p l e rm_J8_init_2 s m av below meth c H locs 0 0 (MQ below (mm_Qv G σf) av s 0 0 (mm_A G)) (F0 m 41 ls []) := by
  have hx := F.1
  have hb := F.2.1
  have hml := F.2.2.1
  have hown := F.2.2.2.1
  have hts := F.2.2.2.2.1
  unfold g_J8_init_2_41 at hf
  refine lv_aload_n hx hb dJ8_init_2_41 rfl (lv_at hl 0 rfl) ?_
  refine mm_aload_n (r := r1) hx hb dJ8_init_2_42 rfl (lv_at hl 1 rfl) ?_
  replace hf := b1_i hf
  obtain ⟨σ1, e1, hf⟩ := hf
  refine mm_put F hH mc_8 (k := 3) (v := vR r1) (by decide) (hts _ q827) (fun _ h => h) rfl rfl (mm_fitR r1 ⟨rfl, fun _ => rfl⟩) e1 dJ8_init_2_43 (fun H locs hH => ?_)
  refine lv_aload_n hx hb dJ8_init_2_46 rfl (lv_at hl 0 rfl) ?_
  refine mm_aload_n (r := r2) hx hb dJ8_init_2_47 rfl (lv_at hl 2 rfl) ?_
  replace hf := b1_i hf
  obtain ⟨σ2, e2, hf⟩ := hf
  refine mm_put F hH mc_8 (k := 0) (v := vR r2) (by decide) (hts _ q828) (fun _ h => h) rfl rfl (mm_fitR r2 ⟨rfl, fun _ => rfl⟩) e2 dJ8_init_2_48 (fun H locs hH => ?_)
  refine lv_iload_n hx hb dJ8_init_2_51 rfl (lv_at hl 3 rfl) ?_
  refine lv_if_ne (tgt := 60) hx hb dJ8_init_2_52 (by decide) (fun c3 => ?_) (fun c3 => ?_)
  · rw [if_neg c3] at hf
    have h1 := Option.some.inj hf
    subst h1
    exact mm_retv F hH hr hlocks dJ8_init_2_60
  · rw [if_pos c3] at hf
    refine lv_aload_n hx hb dJ8_init_2_55 rfl (lv_at hl 0 rfl) ?_
    refine lv_null hx hb dJ8_init_2_56 ?_
    replace hf := b1_i hf
    obtain ⟨σ4, e3, hf⟩ := hf
    refine mm_put F hH mc_8 (k := 2) (v := vR none) (by decide) (hts _ q830) (fun _ h => h) rfl rfl rfl e3 dJ8_init_2_57 (fun H locs hH => ?_)
    have h1 := Option.some.inj hf
    subst h1
    exact mm_retv F hH hr hlocks dJ8_init_2_60
set_option maxHeartbeats 4000000 in
theorem m_J8_init_2 (l : Launch) (G : mm_G) (h0 : Nat) (r1 : Option Nat) (r2 : Option Nat) (x3 : Int32) (x4 : Int32) (σ : mm_M) (σf : mm_M) (hf : f_J8_init_2 h0 r1 r2 x3 x4 σ = some σf) : Met l yJ8_init_2 (ws_ yJ8_init_2 cJ8_init_2 5 ((Option.none : Option Jvm.ClassFile.FieldType))) rm_J8_init_2 (mm_Pc G [.ref h0, va_rf r1, va_rf r2, .int x3, .int x4] σ) (mm_Qv G σf) 0 0 (mm_A G) := by
  refine mm_met (by decide) rfl rfl (by cases r1 <;> cases r2 <;> exact Nat.le_of_ble_eq_true rfl) (fun p e s m below meth c ls F hH hr hlocks hname hl => ?_)
  have hl : lv_has ls 5 [(0, .ref h0), (1, va_rf r1), (2, va_rf r2), (3, .int x3), (4, .int x4)] := by cases r1 <;> cases r2 <;> exact hl
  have F : mm_F p s m _ c RJ8 cJ8_init_2 5 G := F
  have hx := F.1
  have hb := F.2.1
  have hml := F.2.2.1
  have hown := F.2.2.2.1
  have hts := F.2.2.2.2.1
  unfold f_J8_init_2 at hf
  refine lv_aload_n hx hb dJ8_init_2_0 rfl (lv_at hl 0 rfl) ?_
  refine W.objInit hx hb hown (hts _ q801) (hts _ q96) (hts _ q97) rfl (hl.1.trans hml.symm) rfl dJ8_init_2_1 (Nat.le_of_ble_eq_true rfl) (Nat.le_of_ble_eq_true rfl) ?_
  refine W.eq (g2 := F0 m 4 ls []) rfl ?_
  refine lv_aload_n hx hb dJ8_init_2_4 rfl (lv_at hl 0 rfl) ?_
  refine lv_aload_n hx hb dJ8_init_2_5 rfl (lv_at hl 0 rfl) ?_
  replace hf := b1_i hf
  obtain ⟨σ1, e1, hf⟩ := hf
  refine mm_put F hH mc_8 (k := 0) (v := vR (some h0)) (by decide) (hts _ q828) (fun _ h => h) rfl rfl rfl e1 dJ8_init_2_6 (fun H locs hH => ?_)
  refine lv_aload_n hx hb dJ8_init_2_9 rfl (lv_at hl 0 rfl) ?_
  refine mm_getu F hH (hts _ q802) dJ8_init_2_10 ?_
  replace hf := b1_i hf
  obtain ⟨σ2, e2, hf⟩ := hf
  refine mm_put F hH mc_8 (k := 1) (v := vR σ1.2.2.2.1) (by decide) (hts _ q829) (fun _ h => h) rfl rfl (mm_fitR σ1.2.2.2.1 ⟨rfl, fun _ => rfl⟩) e2 dJ8_init_2_13 (fun H locs hH => ?_)
  refine lv_aload_n hx hb dJ8_init_2_16 rfl (lv_at hl 0 rfl) ?_
  refine mm_getp F hH (hts _ q804) dJ8_init_2_17 ?_
  replace hf := b1_i hf
  obtain ⟨σ3, e3, hf⟩ := hf
  refine mm_put F hH mc_8 (k := 2) (v := vR σ2.2.2.2.2) (by decide) (hts _ q830) (fun _ h => h) rfl rfl (mm_fitR σ2.2.2.2.2 ⟨rfl, fun _ => rfl⟩) e3 dJ8_init_2_20 (fun H locs hH => ?_)
  refine lv_iload hx hb dJ8_init_2_23 (lv_at hl 4 rfl) ?_
  refine lv_if_eq (tgt := 36) hx hb dJ8_init_2_25 (by decide) (fun c4 => ?_) (fun c4 => ?_)
  · rw [if_pos c4] at hf
    refine lv_aload_n hx hb dJ8_init_2_36 rfl (lv_at hl 0 rfl) ?_
    refine lv_null hx hb dJ8_init_2_37 ?_
    replace hf := b1_i hf
    obtain ⟨σ5, e4, hf⟩ := hf
    refine mm_put F hH mc_8 (k := 1) (v := vR none) (by decide) (hts _ q829) (fun _ h => h) rfl rfl rfl e4 dJ8_init_2_38 (fun H locs hH => ?_)
    exact w_J8_init_2_41 F hr hlocks hname  σ5 hf hH (lv_sub hl [0, 1, 2, 3, 4] rfl)
  · rw [if_neg c4] at hf
    refine lv_aload_n hx hb dJ8_init_2_28 rfl (lv_at hl 0 rfl) ?_
    cases hf
/-! java/lang/Exception.<init>(Ljava/lang/String;Ljava/lang/Throwable;ZZ)V -/
abbrev rm_J9_init : Room := { frames := 2, cells := 0, slots := 0, locals := 54 }
set_option maxHeartbeats 4000000 in
theorem m_J9_init (l : Launch) (G : mm_G) (h0 : Nat) (r1 : Option Nat) (r2 : Option Nat) (x3 : Int32) (x4 : Int32) (σ : mm_M) (σf : mm_M) (hf : f_J9_init h0 r1 r2 x3 x4 σ = some σf) : Met l yJ9_init (ws_ yJ9_init cJ9_init 5 ((Option.none : Option Jvm.ClassFile.FieldType))) rm_J9_init (mm_Pc G [.ref h0, va_rf r1, va_rf r2, .int x3, .int x4] σ) (mm_Qv G σf) 0 0 (mm_A G) := by
  refine mm_met (by decide) rfl rfl (by cases r1 <;> cases r2 <;> exact Nat.le_of_ble_eq_true rfl) (fun p e s m below meth c ls F hH hr hlocks hname hl => ?_)
  have hl : lv_has ls 5 [(0, .ref h0), (1, va_rf r1), (2, va_rf r2), (3, .int x3), (4, .int x4)] := by cases r1 <;> cases r2 <;> exact hl
  have F : mm_F p s m _ c RJ9 cJ9_init 5 G := F
  have hx := F.1
  have hb := F.2.1
  have hml := F.2.2.1
  have hown := F.2.2.2.1
  have hts := F.2.2.2.2.1
  unfold f_J9_init at hf
  refine lv_aload_n hx hb dJ9_init_0 rfl (lv_at hl 0 rfl) ?_
  refine mm_aload_n (r := r1) hx hb dJ9_init_1 rfl (lv_at hl 1 rfl) ?_
  refine mm_aload_n (r := r2) hx hb dJ9_init_2 rfl (lv_at hl 2 rfl) ?_
  refine lv_iload_n hx hb dJ9_init_3 rfl (lv_at hl 3 rfl) ?_
  refine lv_iload hx hb dJ9_init_4 (lv_at hl 4 rfl) ?_
  replace hf := b1_i hf
  obtain ⟨σ1, e1, hf⟩ := hf
  refine mm_cv (va_runI (As := [va_rf r1, va_rf r2, .int x3, .int x4]) (rest := []) ⟨hx, hb, hml, hown, hts⟩ (m_J8_init_2 l G h0 r1 r2 x3 x4 σ σ1 e1) (cwI 4 hts (lw_meth q823) rfl rfl rfl (hts _ q81) (hts _ q821) (hts _ q822) rfl (by decide +kernel) ⟨Nat.le_of_ble_eq_true rfl, Nat.le_of_ble_eq_true rfl⟩) (mm_preS F.2.2.2.2.2 hH) rfl rfl hl.1 rfl (lv_room (Nat.le_of_ble_eq_true rfl)) dJ9_init_6 ⟨Nat.le_of_ble_eq_true rfl, Nat.le_of_ble_eq_true rfl⟩) hH (fun H locs hH => ?_)
  have h1 := Option.some.inj hf
  subst h1
  exact mm_retv F hH hr hlocks dJ9_init_9
/-! IslandHeap$Heap.<init>(II)V -/
abbrev rm_X1_init : Room := { frames := 4, cells := 5, slots := 413, locals := 90 }
set_option maxHeartbeats 4000000 in
theorem w_X1_init_51 {p : Program} {l : Launch} {e : Env} {s : State} {m : MethodId} {av : Array Value} {below : List Frame} {meth : Method} {c : Code} {G : mm_G} {σf : mm_M} {n : Nat} {h0 : Nat} {x1 : Int32} {x2 : Int32} (F : mm_F p s m av c RX1 cX1_init 4 G) (hr : meth.sig.returnType = (Option.none : Option Jvm.ClassFile.FieldType)) (hlocks : meth.locks = false) (hname : meth.name = yX1_init.name) (IH51 : ∀ (x3 : Int32) (σ : mm_M) (H : Heap) (locs : List Loc) (ls : Array Slot), mm_H G s σ H locs → lv_has ls 4 [(0, .ref h0), (1, .int x1), (2, .int x2), (3, .int x3)] → itn (s_X1_init h0 x1 x2) n (.inl (x3, σ)) = some σf → W p l e rm_X1_init s m av below meth c H locs 5 413 (MQ below (mm_Qv G σf) av s 5 413 (mm_A G)) (F0 m 51 ls [])) (IH72 : ∀ (x3 : Int32) (σ : mm_M) (H : Heap) (locs : List Loc) (ls : Array Slot), mm_H G s σ H locs → lv_has ls 4 [(0, .ref h0), (1, .int x1), (2, .int x2), (3, .int x3)] → itn (s_X1_init h0 x1 x2) n (.inr (x3, σ)) = some σf → W p l e rm_X1_init s m av below meth c H locs 5 413 (MQ below (mm_Qv G σf) av s 5 413 (mm_A G)) (F0 m 72 ls []))  (x3 : Int32)  (σ : mm_M) (hf : evn (s_X1_init h0 x1 x2) n (g_X1_init_51 h0 x1 x2 x3 σ) = some σf) {H : Heap} {locs : List Loc} {ls : Array Slot} (hH : mm_H G s σ H locs) (hl : lv_has ls 4 [(0, .ref h0), (1, .int x1), (2, .int x2), (3, .int x3)]) : W p l e rm_X1_init s m av below meth c H locs 5 413 (MQ below (mm_Qv G σf) av s 5 413 (mm_A G)) (F0 m 51 ls []) := by
  have hx := F.1
  have hb := F.2.1
  have hml := F.2.2.1
  have hown := F.2.2.2.1
  have hts := F.2.2.2.2.1
  unfold g_X1_init_51 at hf
  refine lv_iload_n hx hb dX1_init_51 rfl (lv_at hl 3 rfl) ?_
  refine lv_bipush (v := 6) hx hb dX1_init_52 (by decide) ?_
  refine lv_icmp_ge (tgt := 70) hx hb dX1_init_54 (by decide) (fun c1 => ?_) (fun c1 => ?_)
  · rw [if_pos c1] at hf
    refine lv_iconst (v := 0) hx hb dX1_init_70 (by decide) ?_
    refine lv_istore_n (lv' := [(3, .int (0 : Int32)), (0, .ref h0), (1, .int x1), (2, .int x2)]) hx hb dX1_init_71 rfl hl (by decide) rfl (fun ls hl => ?_)
    rw [evn_l] at hf
    exact IH72 (0 : Int32) σ _ _ _ hH (lv_sub hl [1, 2, 3, 0] rfl) hf
  · rw [if_neg c1] at hf
    refine lv_aload_n hx hb dX1_init_57 rfl (lv_at hl 0 rfl) ?_
    replace hf := evn_b1 hf
    obtain ⟨q2, e1, hf⟩ := hf
    refine mm_getA F hH mc_1 (k := 4) (by decide) (hts _ q142) (fun _ h => h) e1 dX1_init_58 ?_
    refine lv_iload_n hx hb dX1_init_61 rfl (lv_at hl 3 rfl) ?_
    refine lv_iconst (v := (-1)) hx hb dX1_init_62 (by decide) ?_
    replace hf := evn_b1 hf
    obtain ⟨σ3, e2, hf⟩ := hf
    refine mm_iast F hH e2 dX1_init_63 (fun H locs hH => ?_)
    refine lv_iinc (v := x3 + (1 : Int32)) (lv' := [(3, .int (x3 + (1 : Int32))), (0, .ref h0), (1, .int x1), (2, .int x2)]) hx hb dX1_init_64 hl (k := 3) rfl rfl (by decide) rfl (fun ls hl => ?_)
    refine lv_goto (tgt := 51) hx hb dX1_init_67 (by decide) ?_
    rw [evn_l] at hf
    exact IH51 (x3 + (1 : Int32)) σ3 _ _ _ hH (lv_sub hl [1, 2, 3, 0] rfl) hf
set_option maxHeartbeats 4000000 in
theorem w_X1_init_72 {p : Program} {l : Launch} {e : Env} {s : State} {m : MethodId} {av : Array Value} {below : List Frame} {meth : Method} {c : Code} {G : mm_G} {σf : mm_M} {n : Nat} {h0 : Nat} {x1 : Int32} {x2 : Int32} (F : mm_F p s m av c RX1 cX1_init 4 G) (hr : meth.sig.returnType = (Option.none : Option Jvm.ClassFile.FieldType)) (hlocks : meth.locks = false) (hname : meth.name = yX1_init.name) (IH51 : ∀ (x3 : Int32) (σ : mm_M) (H : Heap) (locs : List Loc) (ls : Array Slot), mm_H G s σ H locs → lv_has ls 4 [(0, .ref h0), (1, .int x1), (2, .int x2), (3, .int x3)] → itn (s_X1_init h0 x1 x2) n (.inl (x3, σ)) = some σf → W p l e rm_X1_init s m av below meth c H locs 5 413 (MQ below (mm_Qv G σf) av s 5 413 (mm_A G)) (F0 m 51 ls [])) (IH72 : ∀ (x3 : Int32) (σ : mm_M) (H : Heap) (locs : List Loc) (ls : Array Slot), mm_H G s σ H locs → lv_has ls 4 [(0, .ref h0), (1, .int x1), (2, .int x2), (3, .int x3)] → itn (s_X1_init h0 x1 x2) n (.inr (x3, σ)) = some σf → W p l e rm_X1_init s m av below meth c H locs 5 413 (MQ below (mm_Qv G σf) av s 5 413 (mm_A G)) (F0 m 72 ls []))  (x3 : Int32)  (σ : mm_M) (hf : evn (s_X1_init h0 x1 x2) n (g_X1_init_72 h0 x1 x2 x3 σ) = some σf) {H : Heap} {locs : List Loc} {ls : Array Slot} (hH : mm_H G s σ H locs) (hl : lv_has ls 4 [(0, .ref h0), (1, .int x1), (2, .int x2), (3, .int x3)]) : W p l e rm_X1_init s m av below meth c H locs 5 413 (MQ below (mm_Qv G σf) av s 5 413 (mm_A G)) (F0 m 72 ls []) := by
  have hx := F.1
  have hb := F.2.1
  have hml := F.2.2.1
  have hown := F.2.2.2.1
  have hts := F.2.2.2.2.1
  unfold g_X1_init_72 at hf
  refine lv_iload_n hx hb dX1_init_72 rfl (lv_at hl 3 rfl) ?_
  refine lv_iconst (v := 4) hx hb dX1_init_73 (by decide) ?_
  refine lv_icmp_ge (tgt := 90) hx hb dX1_init_74 (by decide) (fun c1 => ?_) (fun c1 => ?_)
  · rw [if_pos c1] at hf
    refine lv_aload_n hx hb dX1_init_90 rfl (lv_at hl 0 rfl) ?_
    refine lv_iload_n hx hb dX1_init_91 rfl (lv_at hl 1 rfl) ?_
    replace hf := evn_b1 hf
    obtain ⟨σ2, e1, hf⟩ := hf
    refine mm_putF F hH mc_1 (k := 0) (v := vI x1) (by decide) (hts _ q132) (fun _ h => h) rfl hname rfl rfl rfl e1 dX1_init_92 (fun H locs hH => ?_)
    refine lv_aload_n hx hb dX1_init_95 rfl (lv_at hl 0 rfl) ?_
    refine lv_iload_n hx hb dX1_init_96 rfl (lv_at hl 2 rfl) ?_
    replace hf := evn_b1 hf
    obtain ⟨σ3, e2, hf⟩ := hf
    refine mm_putF F hH mc_1 (k := 1) (v := vI x2) (by decide) (hts _ q134) (fun _ h => h) rfl hname rfl rfl rfl e2 dX1_init_97 (fun H locs hH => ?_)
    rw [evn_r] at hf
    have h1 := Option.some.inj hf
    subst h1
    exact mm_retv F hH hr hlocks dX1_init_100
  · rw [if_neg c1] at hf
    refine lv_aload_n hx hb dX1_init_77 rfl (lv_at hl 0 rfl) ?_
    replace hf := evn_b1 hf
    obtain ⟨q4, e3, hf⟩ := hf
    refine mm_getA F hH mc_1 (k := 5) (by decide) (hts _ q146) (fun _ h => h) e3 dX1_init_78 ?_
    refine lv_iload_n hx hb dX1_init_81 rfl (lv_at hl 3 rfl) ?_
    refine lv_iconst (v := (-1)) hx hb dX1_init_82 (by decide) ?_
    replace hf := evn_b1 hf
    obtain ⟨σ5, e4, hf⟩ := hf
    refine mm_iast F hH e4 dX1_init_83 (fun H locs hH => ?_)
    refine lv_iinc (v := x3 + (1 : Int32)) (lv' := [(3, .int (x3 + (1 : Int32))), (0, .ref h0), (1, .int x1), (2, .int x2)]) hx hb dX1_init_84 hl (k := 3) rfl rfl (by decide) rfl (fun ls hl => ?_)
    refine lv_goto (tgt := 72) hx hb dX1_init_87 (by decide) ?_
    rw [evn_l] at hf
    exact IH72 (x3 + (1 : Int32)) σ5 _ _ _ hH (lv_sub hl [1, 2, 3, 0] rfl) hf
set_option maxHeartbeats 4000000 in
theorem w_X1_init_0 {p : Program} {l : Launch} {e : Env} {s : State} {m : MethodId} {av : Array Value} {below : List Frame} {meth : Method} {c : Code} {G : mm_G} {σf : mm_M} {n : Nat} {h0 : Nat} {x1 : Int32} {x2 : Int32} (F : mm_F p s m av c RX1 cX1_init 4 G) (hr : meth.sig.returnType = (Option.none : Option Jvm.ClassFile.FieldType)) (hlocks : meth.locks = false) (hname : meth.name = yX1_init.name) (IH51 : ∀ (x3 : Int32) (σ : mm_M) (H : Heap) (locs : List Loc) (ls : Array Slot), mm_H G s σ H locs → lv_has ls 4 [(0, .ref h0), (1, .int x1), (2, .int x2), (3, .int x3)] → itn (s_X1_init h0 x1 x2) n (.inl (x3, σ)) = some σf → W p l e rm_X1_init s m av below meth c H locs 5 413 (MQ below (mm_Qv G σf) av s 5 413 (mm_A G)) (F0 m 51 ls [])) (IH72 : ∀ (x3 : Int32) (σ : mm_M) (H : Heap) (locs : List Loc) (ls : Array Slot), mm_H G s σ H locs → lv_has ls 4 [(0, .ref h0), (1, .int x1), (2, .int x2), (3, .int x3)] → itn (s_X1_init h0 x1 x2) n (.inr (x3, σ)) = some σf → W p l e rm_X1_init s m av below meth c H locs 5 413 (MQ below (mm_Qv G σf) av s 5 413 (mm_A G)) (F0 m 72 ls []))    (σ : mm_M) (hf : evn (s_X1_init h0 x1 x2) n (g_X1_init_0 h0 x1 x2 σ) = some σf) {H : Heap} {locs : List Loc} {ls : Array Slot} (hH : mm_H G s σ H locs) (hl : lv_has ls 4 [(0, .ref h0), (1, .int x1), (2, .int x2)]) : W p l e rm_X1_init s m av below meth c H locs 0 0 (MQ below (mm_Qv G σf) av s 5 413 (mm_A G)) (F0 m 0 ls []) := by
  have hx := F.1
  have hb := F.2.1
  have hml := F.2.2.1
  have hown := F.2.2.2.1
  have hts := F.2.2.2.2.1
  unfold g_X1_init_0 at hf
  refine lv_aload_n hx hb dX1_init_0 rfl (lv_at hl 0 rfl) ?_
  refine W.objInit hx hb hown (hts _ q103) (hts _ q96) (hts _ q97) rfl (hl.1.trans hml.symm) rfl dX1_init_1 (Nat.le_of_ble_eq_true rfl) (Nat.le_of_ble_eq_true rfl) ?_
  refine W.eq (g2 := F0 m 4 ls []) rfl ?_
  refine lv_aload_n hx hb dX1_init_4 rfl (lv_at hl 0 rfl) ?_
  replace hf := evn_b2 hf
  obtain ⟨q2, σ1, e1, hf⟩ := hf
  refine mm_new F hH mc_15 (hts _ q104) (hts _ q105) (hts _ q66) (Nat.le_of_ble_eq_true rfl) (Nat.le_of_ble_eq_true rfl) e1 dX1_init_5 (fun H hH => ?_)
  refine lv_dup hx hb dX1_init_8 rfl ?_
  replace hf := evn_b1 hf
  obtain ⟨σ3, e2, hf⟩ := hf
  refine mm_cv (va_runI (As := []) (rest := [.ref q2, .ref h0]) ⟨hx, hb, hml, hown, hts⟩ (m_J2_init l G q2 σ1 σ3 e2) (cwI 0 hts (lw_meth q108) rfl rfl rfl (hts _ q66) (hts _ q106) (hts _ q107) rfl (by decide +kernel) ⟨Nat.le_of_ble_eq_true rfl, Nat.le_of_ble_eq_true rfl⟩) (mm_preS F.2.2.2.2.2 hH) rfl rfl hl.1 rfl (lv_room (Nat.le_of_ble_eq_true rfl)) dX1_init_9 ⟨Nat.le_of_ble_eq_true rfl, Nat.le_of_ble_eq_true rfl⟩) hH (fun H locs hH => ?_)
  replace hf := evn_b1 hf
  obtain ⟨σ4, e3, hf⟩ := hf
  refine mm_putF F hH mc_1 (k := 2) (v := vR (some q2)) (by decide) (hts _ q136) (fun _ h => h) rfl hname rfl rfl rfl e3 dX1_init_12 (fun H locs hH => ?_)
  refine lv_aload_n hx hb dX1_init_15 rfl (lv_at hl 0 rfl) ?_
  refine lv_sipush (v := 200) hx hb dX1_init_16 (by decide) ?_
  replace hf := evn_b2 hf
  obtain ⟨q6, σ5, e4, hf⟩ := hf
  refine mm_newq F hH (k := 3) (lim := 200) rfl F.2.2.2.2.2.2.2.1.1 (hts _ q130) (Nat.le_of_ble_eq_true rfl) (Nat.le_of_ble_eq_true rfl) (by decide) e4 dX1_init_19 (fun H hH => ?_)
  replace hf := evn_b1 hf
  obtain ⟨σ7, e5, hf⟩ := hf
  refine mm_putF F hH mc_1 (k := 3) (v := vR (some q6)) (by decide) (hts _ q140) (fun _ h => h) rfl hname rfl rfl rfl e5 dX1_init_22 (fun H locs hH => ?_)
  refine lv_aload_n hx hb dX1_init_25 rfl (lv_at hl 0 rfl) ?_
  refine lv_bipush (v := 6) hx hb dX1_init_26 (by decide) ?_
  replace hf := evn_b2 hf
  obtain ⟨q9, σ8, e6, hf⟩ := hf
  refine mm_newaI F hH (lim := 6) (hts _ q181) (Nat.le_of_ble_eq_true rfl) (Nat.le_of_ble_eq_true rfl) (by decide) e6 dX1_init_28 (fun H hH => ?_)
  replace hf := evn_b1 hf
  obtain ⟨σ10, e7, hf⟩ := hf
  refine mm_putF F hH mc_1 (k := 4) (v := vR (some q9)) (by decide) (hts _ q142) (fun _ h => h) rfl hname rfl rfl rfl e7 dX1_init_30 (fun H locs hH => ?_)
  refine lv_aload_n hx hb dX1_init_33 rfl (lv_at hl 0 rfl) ?_
  refine lv_iconst (v := 4) hx hb dX1_init_34 (by decide) ?_
  replace hf := evn_b2 hf
  obtain ⟨q12, σ11, e8, hf⟩ := hf
  refine mm_newaI F hH (lim := 4) (hts _ q181) (Nat.le_of_ble_eq_true rfl) (Nat.le_of_ble_eq_true rfl) (by decide) e8 dX1_init_35 (fun H hH => ?_)
  replace hf := evn_b1 hf
  obtain ⟨σ13, e9, hf⟩ := hf
  refine mm_putF F hH mc_1 (k := 5) (v := vR (some q12)) (by decide) (hts _ q146) (fun _ h => h) rfl hname rfl rfl rfl e9 dX1_init_37 (fun H locs hH => ?_)
  refine lv_aload_n hx hb dX1_init_40 rfl (lv_at hl 0 rfl) ?_
  refine lv_sipush (v := 200) hx hb dX1_init_41 (by decide) ?_
  replace hf := evn_b2 hf
  obtain ⟨q15, σ14, e10, hf⟩ := hf
  refine mm_newaI F hH (lim := 200) (hts _ q181) (Nat.le_of_ble_eq_true rfl) (Nat.le_of_ble_eq_true rfl) (by decide) e10 dX1_init_44 (fun H hH => ?_)
  replace hf := evn_b1 hf
  obtain ⟨σ16, e11, hf⟩ := hf
  refine mm_putF F hH mc_1 (k := 10) (v := vR (some q15)) (by decide) (hts _ q156) (fun _ h => h) rfl hname rfl rfl rfl e11 dX1_init_46 (fun H locs hH => ?_)
  refine lv_iconst (v := 0) hx hb dX1_init_49 (by decide) ?_
  refine lv_istore_n (lv' := [(3, .int (0 : Int32)), (0, .ref h0), (1, .int x1), (2, .int x2)]) hx hb dX1_init_50 rfl hl (by decide) rfl (fun ls hl => ?_)
  rw [evn_l] at hf
  exact IH51 (0 : Int32) σ16 _ _ _ hH (lv_sub hl [1, 2, 3, 0] rfl) hf
set_option maxHeartbeats 4000000 in
theorem l_X1_init {p : Program} {l : Launch} {e : Env} {s : State} {m : MethodId} {av : Array Value} {below : List Frame} {meth : Method} {c : Code} {G : mm_G} {σf : mm_M} {h0 : Nat} {x1 : Int32} {x2 : Int32} (F : mm_F p s m av c RX1 cX1_init 4 G) (hr : meth.sig.returnType = (Option.none : Option Jvm.ClassFile.FieldType)) (hlocks : meth.locks = false) (hname : meth.name = yX1_init.name) : ∀ n : Nat, (∀ (x3 : Int32) (σ : mm_M) (H : Heap) (locs : List Loc) (ls : Array Slot), mm_H G s σ H locs → lv_has ls 4 [(0, .ref h0), (1, .int x1), (2, .int x2), (3, .int x3)] → itn (s_X1_init h0 x1 x2) n (.inl (x3, σ)) = some σf → W p l e rm_X1_init s m av below meth c H locs 5 413 (MQ below (mm_Qv G σf) av s 5 413 (mm_A G)) (F0 m 51 ls [])) ∧ (∀ (x3 : Int32) (σ : mm_M) (H : Heap) (locs : List Loc) (ls : Array Slot), mm_H G s σ H locs → lv_has ls 4 [(0, .ref h0), (1, .int x1), (2, .int x2), (3, .int x3)] → itn (s_X1_init h0 x1 x2) n (.inr (x3, σ)) = some σf → W p l e rm_X1_init s m av below meth c H locs 5 413 (MQ below (mm_Qv G σf) av s 5 413 (mm_A G)) (F0 m 72 ls [])) := by
  intro n
  induction n with
  | zero =>
    exact ⟨fun x3 σ H locs ls hH hl hf => (by cases hf), fun x3 σ H locs ls hH hl hf => (by cases hf)⟩
  | succ n ih =>
    obtain ⟨IH51, IH72⟩ := ih
    refine ⟨?_, ?_⟩
    · intro x3 σ H locs ls hH hl hf
      rw [itn_s] at hf
      exact w_X1_init_51 F hr hlocks hname IH51 IH72 x3 σ hf hH hl
    · intro x3 σ H locs ls hH hl hf
      rw [itn_s] at hf
      exact w_X1_init_72 F hr hlocks hname IH51 IH72 x3 σ hf hH hl
set_option maxHeartbeats 4000000 in
theorem m_X1_init (l : Launch) (G : mm_G) (h0 : Nat) (x1 : Int32) (x2 : Int32) (σ : mm_M) (σf : mm_M) (hf : f_X1_init h0 x1 x2 σ = some σf) : Met l yX1_init (ws_ yX1_init cX1_init 4 ((Option.none : Option Jvm.ClassFile.FieldType))) rm_X1_init (mm_Pc G [.ref h0, .int x1, .int x2] σ) (mm_Qv G σf) 5 413 (mm_A G) := by
  refine mm_met (by decide) rfl rfl (by  exact Nat.le_of_ble_eq_true rfl) (fun p e s m below meth c ls F hH hr hlocks hname hl => ?_)
  have hl : lv_has ls 4 [(0, .ref h0), (1, .int x1), (2, .int x2)] := by  exact hl
  have F : mm_F p s m _ c RX1 cX1_init 4 G := F
  unfold f_X1_init at hf
  obtain ⟨n, hf⟩ := lgo_i hf
  have IH := l_X1_init (l := l) (e := e) (below := below) (σf := σf) (h0 := h0) (x1 := x1) (x2 := x2) F hr hlocks hname n
  exact w_X1_init_0 F hr hlocks hname IH.1 IH.2 σ hf hH (lv_sub hl [0, 1, 2] rfl)
/-! IslandHeap.<init>()V -/
abbrev rm_X0_init : Room := { frames := 5, cells := 9, slots := 706, locals := 113 }
set_option maxHeartbeats 4000000 in
theorem m_X0_init (l : Launch) (G : mm_G) (h0 : Nat) (σ : mm_M) (σf : mm_M) (hf : f_X0_init h0 σ = some σf) : Met l yX0_init (ws_ yX0_init cX0_init 1 ((Option.none : Option Jvm.ClassFile.FieldType))) rm_X0_init (mm_Pc G [.ref h0] σ) (mm_Qv G σf) 9 706 (mm_A G) := by
  refine mm_met (by decide) rfl rfl (by  exact Nat.le_of_ble_eq_true rfl) (fun p e s m below meth c ls F hH hr hlocks hname hl => ?_)
  have hl : lv_has ls 1 [(0, .ref h0)] := by  exact hl
  have F : mm_F p s m _ c RX0 cX0_init 1 G := F
  have hx := F.1
  have hb := F.2.1
  have hml := F.2.2.1
  have hown := F.2.2.2.1
  have hts := F.2.2.2.2.1
  unfold f_X0_init at hf
  refine lv_aload_n hx hb dX0_init_0 rfl (lv_at hl 0 rfl) ?_
  refine W.objInit hx hb hown (hts _ q95) (hts _ q96) (hts _ q97) rfl (hl.1.trans hml.symm) rfl dX0_init_1 (Nat.le_of_ble_eq_true rfl) (Nat.le_of_ble_eq_true rfl) ?_
  refine W.eq (g2 := F0 m 4 ls []) rfl ?_
  refine lv_aload_n hx hb dX0_init_4 rfl (lv_at hl 0 rfl) ?_
  replace hf := b2_i hf
  obtain ⟨q2, σ1, e1, hf⟩ := hf
  refine mm_new F hH mc_1 (hts _ q98) (hts _ q99) (hts _ q63) (Nat.le_of_ble_eq_true rfl) (Nat.le_of_ble_eq_true rfl) e1 dX0_init_5 (fun H hH => ?_)
  refine lv_dup hx hb dX0_init_8 rfl ?_
  refine lv_bipush (v := 100) hx hb dX0_init_9 (by decide) ?_
  refine lv_bipush (v := 8) hx hb dX0_init_11 (by decide) ?_
  replace hf := b1_i hf
  obtain ⟨σ3, e2, hf⟩ := hf
  refine mm_cv (va_runI (As := [.int (100 : Int32), .int (8 : Int32)]) (rest := [.ref q2, .ref h0]) ⟨hx, hb, hml, hown, hts⟩ (m_X1_init l G q2 (100 : Int32) (8 : Int32) σ1 σ3 e2) (cwI 2 hts (lw_meth q102) rfl rfl rfl (hts _ q63) (hts _ q100) (hts _ q101) rfl (by decide +kernel) ⟨Nat.le_of_ble_eq_true rfl, Nat.le_of_ble_eq_true rfl⟩) (mm_preS F.2.2.2.2.2 hH) rfl rfl hl.1 rfl (lv_room (Nat.le_of_ble_eq_true rfl)) dX0_init_13 ⟨Nat.le_of_ble_eq_true rfl, Nat.le_of_ble_eq_true rfl⟩) hH (fun H locs hH => ?_)
  replace hf := b1_i hf
  obtain ⟨σ4, e3, hf⟩ := hf
  refine mm_put F hH mc_0 (k := 0) (v := vR (some q2)) (by decide) (hts _ q185) (fun _ h => h) rfl rfl rfl e3 dX0_init_16 (fun H locs hH => ?_)
  refine lv_aload_n hx hb dX0_init_19 rfl (lv_at hl 0 rfl) ?_
  refine lv_sipush (v := 200) hx hb dX0_init_20 (by decide) ?_
  replace hf := b2_i hf
  obtain ⟨q6, σ5, e4, hf⟩ := hf
  refine mm_newq F hH (k := 3) (lim := 200) rfl F.2.2.2.2.2.2.2.1.1 (hts _ q182) (Nat.le_of_ble_eq_true rfl) (Nat.le_of_ble_eq_true rfl) (by decide) e4 dX0_init_23 (fun H hH => ?_)
  replace hf := b1_i hf
  obtain ⟨σ7, e5, hf⟩ := hf
  refine mm_putF F hH mc_0 (k := 1) (v := vR (some q6)) (by decide) (hts _ q188) (fun _ h => h) rfl hname rfl rfl rfl e5 dX0_init_26 (fun H locs hH => ?_)
  refine lv_aload_n hx hb dX0_init_29 rfl (lv_at hl 0 rfl) ?_
  refine lv_bipush (v := 80) hx hb dX0_init_30 (by decide) ?_
  replace hf := b2_i hf
  obtain ⟨q9, σ8, e6, hf⟩ := hf
  refine mm_newaB F hH (lim := 80) (hts _ q211) (Nat.le_of_ble_eq_true rfl) (Nat.le_of_ble_eq_true rfl) (by decide) e6 dX0_init_32 (fun H hH => ?_)
  replace hf := b1_i hf
  obtain ⟨σ10, e7, hf⟩ := hf
  refine mm_putF F hH mc_0 (k := 2) (v := vR (some q9)) (by decide) (hts _ q190) (fun _ h => h) rfl hname rfl rfl rfl e7 dX0_init_34 (fun H locs hH => ?_)
  refine lv_aload_n hx hb dX0_init_37 rfl (lv_at hl 0 rfl) ?_
  refine lv_iconst (v := (-1)) hx hb dX0_init_38 (by decide) ?_
  replace hf := b1_i hf
  obtain ⟨σ11, e8, hf⟩ := hf
  refine mm_put F hH mc_0 (k := 4) (v := vI (-1 : Int32)) (by decide) (hts _ q193) (fun _ h => h) rfl rfl rfl e8 dX0_init_39 (fun H locs hH => ?_)
  refine lv_aload_n hx hb dX0_init_42 rfl (lv_at hl 0 rfl) ?_
  refine lv_iconst (v := 2) hx hb dX0_init_43 (by decide) ?_
  replace hf := b2_i hf
  obtain ⟨q13, σ12, e9, hf⟩ := hf
  refine mm_newq F hH (k := 4) (lim := 2) rfl F.2.2.2.2.2.2.2.1.2.1 (hts _ q98) (Nat.le_of_ble_eq_true rfl) (Nat.le_of_ble_eq_true rfl) (by decide) e9 dX0_init_44 (fun H hH => ?_)
  replace hf := b1_i hf
  obtain ⟨σ14, e10, hf⟩ := hf
  refine mm_putF F hH mc_0 (k := 5) (v := vR (some q13)) (by decide) (hts _ q194) (fun _ h => h) rfl hname rfl rfl rfl e10 dX0_init_47 (fun H locs hH => ?_)
  have h1 := Option.some.inj hf
  subst h1
  exact mm_retv F hH hr hlocks dX0_init_50
/-! IslandHeap.isIn(III)Z -/
abbrev rm_X0_isIn : Room := { frames := 0, cells := 0, slots := 0, locals := 0 }
set_option maxHeartbeats 4000000 in
theorem m_X0_isIn (l : Launch) (G : mm_G) (x0 : Int32) (x1 : Int32) (x2 : Int32) (σ : mm_M) (rr : Int32) (hf : f_X0_isIn x0 x1 x2 σ = some rr) : Met l yX0_isIn (ws_ yX0_isIn cX0_isIn 3 ((Option.some .boolean))) rm_X0_isIn (mm_Pc G [.int x0, .int x1, .int x2] σ) (mm_Qi G rr σ) 0 0 (mm_A G) := by
  refine mm_met (by decide) rfl rfl (by  exact Nat.le_of_ble_eq_true rfl) (fun p e s m below meth c ls F hH hr hlocks hname hl => ?_)
  have hl : lv_has ls 3 [(0, .int x0), (1, .int x1), (2, .int x2)] := by  exact hl
  have F : mm_F p s m _ c RX0 cX0_isIn 3 G := F
  have hx := F.1
  have hb := F.2.1
  have hml := F.2.2.1
  have hown := F.2.2.2.1
  have hts := F.2.2.2.2.1
  unfold f_X0_isIn at hf
  refine lv_iload_n hx hb dX0_isIn_0 rfl (lv_at hl 0 rfl) ?_
  refine lv_iload_n hx hb dX0_isIn_1 rfl (lv_at hl 1 rfl) ?_
  refine lv_icmp_lt (tgt := 14) hx hb dX0_isIn_2 (by decide) (fun c1 => ?_) (fun c1 => ?_)
  · rw [if_pos c1] at hf
    refine lv_iconst (v := 0) hx hb dX0_isIn_14 (by decide) ?_
    have h1 := Option.some.inj hf
    subst h1
    exact mm_reti F hH hr hlocks rfl rfl dX0_isIn_15
  · rw [if_neg c1] at hf
    refine lv_iload_n hx hb dX0_isIn_5 rfl (lv_at hl 0 rfl) ?_
    refine lv_iload_n hx hb dX0_isIn_6 rfl (lv_at hl 2 rfl) ?_
    refine lv_icmp_gt (tgt := 14) hx hb dX0_isIn_7 (by decide) (fun c2 => ?_) (fun c2 => ?_)
    · rw [if_pos c2] at hf
      refine lv_iconst (v := 0) hx hb dX0_isIn_14 (by decide) ?_
      have h1 := Option.some.inj hf
      subst h1
      exact mm_reti F hH hr hlocks rfl rfl dX0_isIn_15
    · rw [if_neg c2] at hf
      refine lv_iconst (v := 1) hx hb dX0_isIn_10 (by decide) ?_
      refine lv_goto (tgt := 15) hx hb dX0_isIn_11 (by decide) ?_
      have h1 := Option.some.inj hf
      subst h1
      exact mm_reti F hH hr hlocks rfl rfl dX0_isIn_15
/-! IslandHeap.reset(II)I -/
abbrev rm_X0_reset : Room := { frames := 5, cells := 6, slots := 424, locals := 113 }
set_option maxHeartbeats 4000000 in
theorem m_X0_reset (l : Launch) (G : mm_G) (h0 : Nat) (x1 : Int32) (x2 : Int32) (σ : mm_M) (σf : mm_M) (rr : Int32) (hf : f_X0_reset h0 x1 x2 σ = some (rr, σf)) : Met l yX0_reset (ws_ yX0_reset cX0_reset 3 ((Option.some .int))) rm_X0_reset (mm_Pc G [.ref h0, .int x1, .int x2] σ) (mm_Qi G rr σf) 6 424 (mm_A G) := by
  refine mm_met (by decide) rfl rfl (by  exact Nat.le_of_ble_eq_true rfl) (fun p e s m below meth c ls F hH hr hlocks hname hl => ?_)
  have hl : lv_has ls 3 [(0, .ref h0), (1, .int x1), (2, .int x2)] := by  exact hl
  have F : mm_F p s m _ c RX0 cX0_reset 3 G := F
  have hx := F.1
  have hb := F.2.1
  have hml := F.2.2.1
  have hown := F.2.2.2.1
  have hts := F.2.2.2.2.1
  unfold f_X0_reset at hf
  refine lv_iload_n hx hb dX0_reset_0 rfl (lv_at hl 1 rfl) ?_
  refine lv_bipush (v := 8) hx hb dX0_reset_1 (by decide) ?_
  refine lv_sipush (v := 200) hx hb dX0_reset_3 (by decide) ?_
  replace hf := b1_i hf
  obtain ⟨v1, e1, hf⟩ := hf
  refine mm_ci (va_runS (As := [.int x1, .int (8 : Int32), .int (200 : Int32)]) (rest := []) ⟨hx, hb, hml, hown, hts⟩ (m_X0_isIn l G x1 (8 : Int32) (200 : Int32) σ v1 e1) (va_cwS 3 hts (lw_S q216 q217 q62 q218) rfl rfl rfl (by decide +kernel) ⟨Nat.le_of_ble_eq_true rfl, Nat.le_of_ble_eq_true rfl⟩) (mm_preS F.2.2.2.2.2 hH) rfl rfl hl.1 rfl (lv_room (Nat.le_of_ble_eq_true rfl)) dX0_reset_6 ⟨Nat.le_of_ble_eq_true rfl, Nat.le_of_ble_eq_true rfl⟩) hH (fun H locs hH => ?_)
  refine lv_if_eq (tgt := 22) hx hb dX0_reset_9 (by decide) (fun c2 => ?_) (fun c2 => ?_)
  · rw [if_pos c2] at hf
    refine lv_ldc (v := (-1000002)) hx hb hown (hts _ q219) dX0_reset_22 ?_
    obtain ⟨h1, h2⟩ := Prod.mk.inj (Option.some.inj hf)
    subst h1
    subst h2
    refine W.widen (k := 6) (n := 424) (Nat.le_of_ble_eq_true rfl) (Nat.le_of_ble_eq_true rfl) ?_
    exact mm_reti F hH hr hlocks rfl rfl dX0_reset_24
  · rw [if_neg c2] at hf
    refine lv_iload_n hx hb dX0_reset_12 rfl (lv_at hl 2 rfl) ?_
    refine lv_iconst (v := 1) hx hb dX0_reset_13 (by decide) ?_
    refine lv_bipush (v := 20) hx hb dX0_reset_14 (by decide) ?_
    replace hf := b1_i hf
    obtain ⟨v3, e2, hf⟩ := hf
    refine mm_ci (va_runS (As := [.int x2, .int (1 : Int32), .int (20 : Int32)]) (rest := []) ⟨hx, hb, hml, hown, hts⟩ (m_X0_isIn l G x2 (1 : Int32) (20 : Int32) σ v3 e2) (va_cwS 3 hts (lw_S q216 q217 q62 q218) rfl rfl rfl (by decide +kernel) ⟨Nat.le_of_ble_eq_true rfl, Nat.le_of_ble_eq_true rfl⟩) (mm_preS F.2.2.2.2.2 hH) rfl rfl hl.1 rfl (lv_room (Nat.le_of_ble_eq_true rfl)) dX0_reset_16 ⟨Nat.le_of_ble_eq_true rfl, Nat.le_of_ble_eq_true rfl⟩) hH (fun H locs hH => ?_)
    refine lv_if_ne (tgt := 25) hx hb dX0_reset_19 (by decide) (fun c4 => ?_) (fun c4 => ?_)
    · rw [if_neg c4] at hf
      refine lv_aload_n hx hb dX0_reset_25 rfl (lv_at hl 0 rfl) ?_
      replace hf := b2_i hf
      obtain ⟨q6, σ5, e3, hf⟩ := hf
      refine mm_new F hH mc_1 (hts _ q98) (hts _ q99) (hts _ q63) (Nat.le_of_ble_eq_true rfl) (Nat.le_of_ble_eq_true rfl) e3 dX0_reset_26 (fun H hH => ?_)
      refine lv_dup hx hb dX0_reset_29 rfl ?_
      refine lv_iload_n hx hb dX0_reset_30 rfl (lv_at hl 1 rfl) ?_
      refine lv_iload_n hx hb dX0_reset_31 rfl (lv_at hl 2 rfl) ?_
      replace hf := b1_i hf
      obtain ⟨σ7, e4, hf⟩ := hf
      refine mm_cv (va_runI (As := [.int x1, .int x2]) (rest := [.ref q6, .ref h0]) ⟨hx, hb, hml, hown, hts⟩ (m_X1_init l G q6 x1 x2 σ5 σ7 e4) (cwI 2 hts (lw_meth q102) rfl rfl rfl (hts _ q63) (hts _ q100) (hts _ q101) rfl (by decide +kernel) ⟨Nat.le_of_ble_eq_true rfl, Nat.le_of_ble_eq_true rfl⟩) (mm_preS F.2.2.2.2.2 hH) rfl rfl hl.1 rfl (lv_room (Nat.le_of_ble_eq_true rfl)) dX0_reset_32 ⟨Nat.le_of_ble_eq_true rfl, Nat.le_of_ble_eq_true rfl⟩) hH (fun H locs hH => ?_)
      replace hf := b1_i hf
      obtain ⟨σ8, e5, hf⟩ := hf
      refine mm_put F hH mc_0 (k := 0) (v := vR (some q6)) (by decide) (hts _ q185) (fun _ h => h) rfl rfl rfl e5 dX0_reset_35 (fun H locs hH => ?_)
      refine lv_iload_n hx hb dX0_reset_38 rfl (lv_at hl 1 rfl) ?_
      obtain ⟨h1, h2⟩ := Prod.mk.inj (Option.some.inj hf)
      subst h1
      subst h2
      exact mm_reti F hH hr hlocks rfl rfl dX0_reset_39
    · rw [if_pos c4] at hf
      refine lv_ldc (v := (-1000002)) hx hb hown (hts _ q219) dX0_reset_22 ?_
      obtain ⟨h1, h2⟩ := Prod.mk.inj (Option.some.inj hf)
      subst h1
      subst h2
      refine W.widen (k := 6) (n := 424) (Nat.le_of_ble_eq_true rfl) (Nat.le_of_ble_eq_true rfl) ?_
      exact mm_reti F hH hr hlocks rfl rfl dX0_reset_24
/-! IslandHeap$Heap.holeEnd(I)I -/
abbrev rm_X1_holeEnd : Room := { frames := 0, cells := 0, slots := 0, locals := 0 }
set_option maxHeartbeats 4000000 in
theorem w_X1_holeEnd_2 {p : Program} {l : Launch} {e : Env} {s : State} {m : MethodId} {av : Array Value} {below : List Frame} {meth : Method} {c : Code} {G : mm_G} {rr : Int32} {n : Nat} {σ : mm_M} {h0 : Nat} {x1 : Int32} (F : mm_F p s m av c RX1 cX1_holeEnd 3 G) (hr : meth.sig.returnType = (Option.some .int)) (hlocks : meth.locks = false) (hname : meth.name = yX1_holeEnd.name) (IH2 : ∀ (x2 : Int32) (H : Heap) (locs : List Loc) (ls : Array Slot), mm_H G s σ H locs → lv_has ls 3 [(0, .ref h0), (1, .int x1), (2, .int x2)] → itn (s_X1_holeEnd h0 x1 σ) n x2 = some rr → W p l e rm_X1_holeEnd s m av below meth c H locs 0 0 (MQ below (mm_Qi G rr σ) av s 0 0 (mm_A G)) (F0 m 2 ls []))  (x2 : Int32)  (hf : evn (s_X1_holeEnd h0 x1 σ) n (g_X1_holeEnd_2 h0 x1 x2 σ) = some rr) {H : Heap} {locs : List Loc} {ls : Array Slot} (hH : mm_H G s σ H locs) (hl : lv_has ls 3 [(0, .ref h0), (1, .int x1), (2, .int x2)]) : W p l e rm_X1_holeEnd s m av below meth c H locs 0 0 (MQ below (mm_Qi G rr σ) av s 0 0 (mm_A G)) (F0 m 2 ls []) := by
  have hx := F.1
  have hb := F.2.1
  have hml := F.2.2.1
  have hown := F.2.2.2.1
  have hts := F.2.2.2.2.1
  unfold g_X1_holeEnd_2 at hf
  refine lv_iload_n hx hb dX1_holeEnd_2 rfl (lv_at hl 2 rfl) ?_
  refine lv_aload_n hx hb dX1_holeEnd_3 rfl (lv_at hl 0 rfl) ?_
  replace hf := evn_b1 hf
  obtain ⟨v1, e1, hf⟩ := hf
  refine mm_getI F hH mc_1 (k := 0) (by decide) (hts _ q132) (fun _ h => h) e1 dX1_holeEnd_4 ?_
  refine lv_icmp_ge (tgt := 25) hx hb dX1_holeEnd_7 (by decide) (fun c2 => ?_) (fun c2 => ?_)
  · rw [if_pos c2] at hf
    refine lv_iload_n hx hb dX1_holeEnd_25 rfl (lv_at hl 2 rfl) ?_
    rw [evn_r] at hf
    have h1 := Option.some.inj hf
    subst h1
    exact mm_reti F hH hr hlocks rfl rfl dX1_holeEnd_26
  · rw [if_neg c2] at hf
    refine lv_aload_n hx hb dX1_holeEnd_10 rfl (lv_at hl 0 rfl) ?_
    replace hf := evn_b1 hf
    obtain ⟨q3, e2, hf⟩ := hf
    refine mm_getA F hH mc_1 (k := 3) (by decide) (hts _ q140) (fun _ h => h) e2 dX1_holeEnd_11 ?_
    refine lv_iload_n hx hb dX1_holeEnd_14 rfl (lv_at hl 2 rfl) ?_
    replace hf := evn_b1 hf
    obtain ⟨p4, e3, hf⟩ := hf
    refine mm_aald F hH (k := 3) (by decide) e3 dX1_holeEnd_15 ?_
    cases p4 with
    | none =>
      rw [mt_n] at hf
      refine lv_ifnonnullN hx hb dX1_holeEnd_16 ?_
      refine lv_iinc (v := x2 + (1 : Int32)) (lv' := [(2, .int (x2 + (1 : Int32))), (0, .ref h0), (1, .int x1)]) hx hb dX1_holeEnd_19 hl (k := 2) rfl rfl (by decide) rfl (fun ls hl => ?_)
      refine lv_goto (tgt := 2) hx hb dX1_holeEnd_22 (by decide) ?_
      rw [evn_l] at hf
      exact IH2 (x2 + (1 : Int32)) _ _ _ hH (lv_sub hl [1, 2, 0] rfl) hf
    | some q5 =>
      rw [mt_s] at hf
      refine lv_ifnonnull (tgt := 25) hx hb dX1_holeEnd_16 (by decide) ?_
      refine lv_iload_n hx hb dX1_holeEnd_25 rfl (lv_at hl 2 rfl) ?_
      rw [evn_r] at hf
      have h1 := Option.some.inj hf
      subst h1
      exact mm_reti F hH hr hlocks rfl rfl dX1_holeEnd_26
set_option maxHeartbeats 4000000 in
theorem w_X1_holeEnd_0 {p : Program} {l : Launch} {e : Env} {s : State} {m : MethodId} {av : Array Value} {below : List Frame} {meth : Method} {c : Code} {G : mm_G} {rr : Int32} {n : Nat} {σ : mm_M} {h0 : Nat} {x1 : Int32} (F : mm_F p s m av c RX1 cX1_holeEnd 3 G) (hr : meth.sig.returnType = (Option.some .int)) (hlocks : meth.locks = false) (hname : meth.name = yX1_holeEnd.name) (IH2 : ∀ (x2 : Int32) (H : Heap) (locs : List Loc) (ls : Array Slot), mm_H G s σ H locs → lv_has ls 3 [(0, .ref h0), (1, .int x1), (2, .int x2)] → itn (s_X1_holeEnd h0 x1 σ) n x2 = some rr → W p l e rm_X1_holeEnd s m av below meth c H locs 0 0 (MQ below (mm_Qi G rr σ) av s 0 0 (mm_A G)) (F0 m 2 ls []))    (hf : evn (s_X1_holeEnd h0 x1 σ) n (g_X1_holeEnd_0 h0 x1 σ) = some rr) {H : Heap} {locs : List Loc} {ls : Array Slot} (hH : mm_H G s σ H locs) (hl : lv_has ls 3 [(0, .ref h0), (1, .int x1)]) : W p l e rm_X1_holeEnd s m av below meth c H locs 0 0 (MQ below (mm_Qi G rr σ) av s 0 0 (mm_A G)) (F0 m 0 ls []) := by
  have hx := F.1
  have hb := F.2.1
  have hml := F.2.2.1
  have hown := F.2.2.2.1
  have hts := F.2.2.2.2.1
  unfold g_X1_holeEnd_0 at hf
  refine lv_iload_n hx hb dX1_holeEnd_0 rfl (lv_at hl 1 rfl) ?_
  refine lv_istore_n (lv' := [(2, .int x1), (0, .ref h0), (1, .int x1)]) hx hb dX1_holeEnd_1 rfl hl (by decide) rfl (fun ls hl => ?_)
  rw [evn_l] at hf
  exact IH2 x1 _ _ _ hH (lv_sub hl [1, 2, 0] rfl) hf
set_option maxHeartbeats 4000000 in
theorem l_X1_holeEnd {p : Program} {l : Launch} {e : Env} {s : State} {m : MethodId} {av : Array Value} {below : List Frame} {meth : Method} {c : Code} {G : mm_G} {rr : Int32} {σ : mm_M} {h0 : Nat} {x1 : Int32} (F : mm_F p s m av c RX1 cX1_holeEnd 3 G) (hr : meth.sig.returnType = (Option.some .int)) (hlocks : meth.locks = false) (hname : meth.name = yX1_holeEnd.name) : ∀ n : Nat, (∀ (x2 : Int32) (H : Heap) (locs : List Loc) (ls : Array Slot), mm_H G s σ H locs → lv_has ls 3 [(0, .ref h0), (1, .int x1), (2, .int x2)] → itn (s_X1_holeEnd h0 x1 σ) n x2 = some rr → W p l e rm_X1_holeEnd s m av below meth c H locs 0 0 (MQ below (mm_Qi G rr σ) av s 0 0 (mm_A G)) (F0 m 2 ls [])) := by
  intro n
  induction n with
  | zero =>
    exact fun x2 H locs ls hH hl hf => by cases hf
  | succ n ih =>
    have IH2 := ih
    intro x2 H locs ls hH hl hf
    rw [itn_s] at hf
    exact w_X1_holeEnd_2 F hr hlocks hname IH2 x2 hf hH hl
set_option maxHeartbeats 4000000 in
theorem m_X1_holeEnd (l : Launch) (G : mm_G) (h0 : Nat) (x1 : Int32) (σ : mm_M) (rr : Int32) (hf : f_X1_holeEnd h0 x1 σ = some rr) : Met l yX1_holeEnd (ws_ yX1_holeEnd cX1_holeEnd 3 ((Option.some .int))) rm_X1_holeEnd (mm_Pc G [.ref h0, .int x1] σ) (mm_Qi G rr σ) 0 0 (mm_A G) := by
  refine mm_met (by decide) rfl rfl (by  exact Nat.le_of_ble_eq_true rfl) (fun p e s m below meth c ls F hH hr hlocks hname hl => ?_)
  have hl : lv_has ls 3 [(0, .ref h0), (1, .int x1)] := by  exact hl
  have F : mm_F p s m _ c RX1 cX1_holeEnd 3 G := F
  unfold f_X1_holeEnd at hf
  obtain ⟨n, hf⟩ := lgo_i hf
  have IH := l_X1_holeEnd (l := l) (e := e) (below := below) (rr := rr) (σ := σ) (h0 := h0) (x1 := x1) F hr hlocks hname n
  exact w_X1_holeEnd_0 F hr hlocks hname IH  hf hH (lv_sub hl [0, 1] rfl)
/-! IslandHeap$Thing.size()I -/
abbrev rm_X3_size : Room := { frames := 0, cells := 0, slots := 0, locals := 0 }
set_option maxHeartbeats 4000000 in
theorem m_X3_size (l : Launch) (G : mm_G) (h0 : Nat) (σ : mm_M) (rr : Int32) (hf : f_X3_size h0 σ = some rr) : Met l yX3_size (ws_ yX3_size cX3_size 1 ((Option.some .int))) rm_X3_size (mm_Pc G [.ref h0] σ) (mm_Qi G rr σ) 0 0 (mm_A G) := by
  refine mm_met (by decide) rfl rfl (by  exact Nat.le_of_ble_eq_true rfl) (fun p e s m below meth c ls F hH hr hlocks hname hl => ?_)
  have hl : lv_has ls 1 [(0, .ref h0)] := by  exact hl
  have F : mm_F p s m _ c RX3 cX3_size 1 G := F
  have hx := F.1
  have hb := F.2.1
  have hml := F.2.2.1
  have hown := F.2.2.2.1
  have hts := F.2.2.2.2.1
  unfold f_X3_size at hf
  refine lv_iconst (v := 1) hx hb dX3_size_0 (by decide) ?_
  refine lv_aload_n hx hb dX3_size_1 rfl (lv_at hl 0 rfl) ?_
  replace hf := b1_i hf
  obtain ⟨q1, e1, hf⟩ := hf
  refine mm_getA F hH mc_3 (k := 1) (by decide) (hts _ q254) (fun _ h => h) e1 dX3_size_2 ?_
  replace hf := b1_i hf
  obtain ⟨v2, e2, hf⟩ := hf
  refine mm_alen F hH e2 dX3_size_5 ?_
  refine lv_iadd hx hb dX3_size_6 ?_
  refine lv_aload_n hx hb dX3_size_7 rfl (lv_at hl 0 rfl) ?_
  replace hf := b1_i hf
  obtain ⟨q3, e3, hf⟩ := hf
  refine mm_getA F hH mc_3 (k := 2) (by decide) (hts _ q260) (fun _ h => h) e3 dX3_size_8 ?_
  replace hf := b1_i hf
  obtain ⟨v4, e4, hf⟩ := hf
  refine mm_alen F hH e4 dX3_size_11 ?_
  refine lv_iadd hx hb dX3_size_12 ?_
  have h1 := Option.some.inj hf
  subst h1
  exact mm_reti F hH hr hlocks rfl rfl dX3_size_13
/-! IslandHeap$Thing.end()I -/
abbrev rm_X3_end : Room := { frames := 1, cells := 0, slots := 0, locals := 20 }
set_option maxHeartbeats 4000000 in
theorem m_X3_end (l : Launch) (G : mm_G) (h0 : Nat) (σ : mm_M) (rr : Int32) (hf : f_X3_end h0 σ = some rr) : Met l yX3_end (ws_ yX3_end cX3_end 1 ((Option.some .int))) rm_X3_end (mm_Pc G [.ref h0] σ) (mm_Qi G rr σ) 0 0 (mm_A G) := by
  refine mm_met (by decide) rfl rfl (by  exact Nat.le_of_ble_eq_true rfl) (fun p e s m below meth c ls F hH hr hlocks hname hl => ?_)
  have hl : lv_has ls 1 [(0, .ref h0)] := by  exact hl
  have F : mm_F p s m _ c RX3 cX3_end 1 G := F
  have hx := F.1
  have hb := F.2.1
  have hml := F.2.2.1
  have hown := F.2.2.2.1
  have hts := F.2.2.2.2.1
  unfold f_X3_end at hf
  refine lv_aload_n hx hb dX3_end_0 rfl (lv_at hl 0 rfl) ?_
  replace hf := b1_i hf
  obtain ⟨v1, e1, hf⟩ := hf
  refine mm_getI F hH mc_3 (k := 0) (by decide) (hts _ q250) (fun _ h => h) e1 dX3_end_1 ?_
  refine lv_aload_n hx hb dX3_end_4 rfl (lv_at hl 0 rfl) ?_
  replace hf := b1_i hf
  obtain ⟨u, e2, hf⟩ := hf
  obtain ⟨fs, ek⟩ := ck_i e2
  replace hf := b1_i hf
  obtain ⟨v2, e3, hf⟩ := hf
  refine mm_ci (va_runV (As := []) (rest := [.int v1]) ⟨hx, hb, hml, hown, hts⟩ (m_X3_size l G h0 σ v2 e3) (cwV 0 hts (lw_V q240 q241 q242 q68 q243) rfl rfl rfl (by decide +kernel) ⟨Nat.le_of_ble_eq_true rfl, Nat.le_of_ble_eq_true rfl⟩) (mm_preV F.2.2.2.2.2 hH (ci := 3) rfl ek) rfl rfl hl.1 rfl (lv_room (Nat.le_of_ble_eq_true rfl)) dX3_end_5 ⟨Nat.le_of_ble_eq_true rfl, Nat.le_of_ble_eq_true rfl⟩) hH (fun H locs hH => ?_)
  refine lv_iadd hx hb dX3_end_8 ?_
  have h1 := Option.some.inj hf
  subst h1
  exact mm_reti F hH hr hlocks rfl rfl dX3_end_9
/-! IslandHeap$Heap.firstHole(I)I -/
abbrev rm_X1_firstHole : Room := { frames := 2, cells := 0, slots := 0, locals := 40 }
set_option maxHeartbeats 4000000 in
theorem w_X1_firstHole_2 {p : Program} {l : Launch} {e : Env} {s : State} {m : MethodId} {av : Array Value} {below : List Frame} {meth : Method} {c : Code} {G : mm_G} {rr : Int32} {n : Nat} {σ : mm_M} {h0 : Nat} {x1 : Int32} (F : mm_F p s m av c RX1 cX1_firstHole 4 G) (hr : meth.sig.returnType = (Option.some .int)) (hlocks : meth.locks = false) (hname : meth.name = yX1_firstHole.name) (IH2 : ∀ (x2 : Int32) (H : Heap) (locs : List Loc) (ls : Array Slot), mm_H G s σ H locs → lv_has ls 4 [(0, .ref h0), (1, .int x1), (2, .int x2)] → itn (s_X1_firstHole h0 x1 σ) n x2 = some rr → W p l e rm_X1_firstHole s m av below meth c H locs 0 0 (MQ below (mm_Qi G rr σ) av s 0 0 (mm_A G)) (F0 m 2 ls []))  (x2 : Int32)  (hf : evn (s_X1_firstHole h0 x1 σ) n (g_X1_firstHole_2 h0 x1 x2 σ) = some rr) {H : Heap} {locs : List Loc} {ls : Array Slot} (hH : mm_H G s σ H locs) (hl : lv_has ls 4 [(0, .ref h0), (1, .int x1), (2, .int x2)]) : W p l e rm_X1_firstHole s m av below meth c H locs 0 0 (MQ below (mm_Qi G rr σ) av s 0 0 (mm_A G)) (F0 m 2 ls []) := by
  have hx := F.1
  have hb := F.2.1
  have hml := F.2.2.1
  have hown := F.2.2.2.1
  have hts := F.2.2.2.2.1
  unfold g_X1_firstHole_2 at hf
  refine lv_iload_n hx hb dX1_firstHole_2 rfl (lv_at hl 2 rfl) ?_
  refine lv_aload_n hx hb dX1_firstHole_3 rfl (lv_at hl 0 rfl) ?_
  replace hf := evn_b1 hf
  obtain ⟨v1, e1, hf⟩ := hf
  refine mm_getI F hH mc_1 (k := 0) (by decide) (hts _ q132) (fun _ h => h) e1 dX1_firstHole_4 ?_
  refine lv_icmp_ge (tgt := 47) hx hb dX1_firstHole_7 (by decide) (fun c2 => ?_) (fun c2 => ?_)
  · rw [if_pos c2] at hf
    refine lv_iconst (v := (-1)) hx hb dX1_firstHole_47 (by decide) ?_
    rw [evn_r] at hf
    have h1 := Option.some.inj hf
    subst h1
    exact mm_reti F hH hr hlocks rfl rfl dX1_firstHole_48
  · rw [if_neg c2] at hf
    refine lv_aload_n hx hb dX1_firstHole_10 rfl (lv_at hl 0 rfl) ?_
    refine lv_iload_n hx hb dX1_firstHole_11 rfl (lv_at hl 2 rfl) ?_
    replace hf := evn_b1 hf
    obtain ⟨u, e2, hf⟩ := hf
    obtain ⟨fs, ek⟩ := ck_i e2
    replace hf := evn_b1 hf
    obtain ⟨v3, e3, hf⟩ := hf
    refine mm_ci (va_runV (As := [.int x2]) (rest := []) ⟨hx, hb, hml, hown, hts⟩ (m_X1_holeEnd l G h0 x2 σ v3 e3) (cwV 1 hts (lw_V q232 q234 qs0 q63 q235) rfl rfl rfl (by decide +kernel) ⟨Nat.le_of_ble_eq_true rfl, Nat.le_of_ble_eq_true rfl⟩) (mm_preV F.2.2.2.2.2 hH (ci := 1) rfl ek) rfl rfl hl.1 rfl (lv_room (Nat.le_of_ble_eq_true rfl)) dX1_firstHole_12 ⟨Nat.le_of_ble_eq_true rfl, Nat.le_of_ble_eq_true rfl⟩) hH (fun H locs hH => ?_)
    refine lv_istore_n (lv' := [(3, .int v3), (0, .ref h0), (1, .int x1), (2, .int x2)]) hx hb dX1_firstHole_15 rfl hl (by decide) rfl (fun ls hl => ?_)
    refine lv_iload_n hx hb dX1_firstHole_16 rfl (lv_at hl 0 rfl) ?_
    refine lv_iload_n hx hb dX1_firstHole_17 rfl (lv_at hl 3 rfl) ?_
    refine lv_isub hx hb dX1_firstHole_18 ?_
    refine lv_iload_n hx hb dX1_firstHole_19 rfl (lv_at hl 2 rfl) ?_
    refine lv_icmp_lt (tgt := 25) hx hb dX1_firstHole_20 (by decide) (fun c4 => ?_) (fun c4 => ?_)
    · rw [if_pos c4] at hf
      refine lv_iload_n hx hb dX1_firstHole_25 rfl (lv_at hl 0 rfl) ?_
      refine lv_iload_n hx hb dX1_firstHole_26 rfl (lv_at hl 3 rfl) ?_
      refine lv_icmp_ne (tgt := 42) hx hb dX1_firstHole_27 (by decide) (fun c5 => ?_) (fun c5 => ?_)
      · rw [if_neg c5] at hf
        refine lv_iload_n hx hb dX1_firstHole_42 rfl (lv_at hl 0 rfl) ?_
        refine lv_istore_n (lv' := [(2, .int v3), (3, .int v3), (0, .ref h0), (1, .int x1)]) hx hb dX1_firstHole_43 rfl hl (by decide) rfl (fun ls hl => ?_)
        refine lv_goto (tgt := 2) hx hb dX1_firstHole_44 (by decide) ?_
        rw [evn_l] at hf
        exact IH2 v3 _ _ _ hH (lv_sub hl [2, 3, 0] rfl) hf
      · rw [if_pos c5] at hf
        refine lv_aload_n hx hb dX1_firstHole_30 rfl (lv_at hl 1 rfl) ?_
        replace hf := evn_b1 hf
        obtain ⟨q6, e4, hf⟩ := hf
        refine mm_getA F hH mc_1 (k := 3) (by decide) (hts _ q140) (fun _ h => h) e4 dX1_firstHole_31 ?_
        refine lv_iload_n hx hb dX1_firstHole_34 rfl (lv_at hl 3 rfl) ?_
        replace hf := evn_b1 hf
        obtain ⟨p7, e5, hf⟩ := hf
        refine mm_aald F hH (k := 3) (by decide) e5 dX1_firstHole_35 ?_
        replace hf := evn_b1 hf
        obtain ⟨q8, e6, hf⟩ := hf
        subst e6
        replace hf := evn_b1 hf
        obtain ⟨u, e7, hf⟩ := hf
        obtain ⟨fs, ek⟩ := ck_i e7
        replace hf := evn_b1 hf
        obtain ⟨v9, e8, hf⟩ := hf
        refine mm_ci (va_runV (As := []) (rest := []) ⟨hx, hb, hml, hown, hts⟩ (m_X3_end l G q8 σ v9 e8) (cwV 0 hts (lw_V q236 q237 q238 q68 q239) rfl rfl rfl (by decide +kernel) ⟨Nat.le_of_ble_eq_true rfl, Nat.le_of_ble_eq_true rfl⟩) (mm_preV F.2.2.2.2.2 hH (ci := 3) rfl ek) rfl rfl hl.1 rfl (lv_room (Nat.le_of_ble_eq_true rfl)) dX1_firstHole_36 ⟨Nat.le_of_ble_eq_true rfl, Nat.le_of_ble_eq_true rfl⟩) hH (fun H locs hH => ?_)
        refine lv_goto (tgt := 43) hx hb dX1_firstHole_39 (by decide) ?_
        refine lv_istore_n (lv' := [(2, .int v9), (3, .int v3), (0, .ref h0), (1, .int x1)]) hx hb dX1_firstHole_43 rfl hl (by decide) rfl (fun ls hl => ?_)
        refine lv_goto (tgt := 2) hx hb dX1_firstHole_44 (by decide) ?_
        rw [evn_l] at hf
        exact IH2 v9 _ _ _ hH (lv_sub hl [2, 3, 0] rfl) hf
    · rw [if_neg c4] at hf
      refine lv_iload_n hx hb dX1_firstHole_23 rfl (lv_at hl 3 rfl) ?_
      rw [evn_r] at hf
      have h1 := Option.some.inj hf
      subst h1
      exact mm_reti F hH hr hlocks rfl rfl dX1_firstHole_24
set_option maxHeartbeats 4000000 in
theorem w_X1_firstHole_0 {p : Program} {l : Launch} {e : Env} {s : State} {m : MethodId} {av : Array Value} {below : List Frame} {meth : Method} {c : Code} {G : mm_G} {rr : Int32} {n : Nat} {σ : mm_M} {h0 : Nat} {x1 : Int32} (F : mm_F p s m av c RX1 cX1_firstHole 4 G) (hr : meth.sig.returnType = (Option.some .int)) (hlocks : meth.locks = false) (hname : meth.name = yX1_firstHole.name) (IH2 : ∀ (x2 : Int32) (H : Heap) (locs : List Loc) (ls : Array Slot), mm_H G s σ H locs → lv_has ls 4 [(0, .ref h0), (1, .int x1), (2, .int x2)] → itn (s_X1_firstHole h0 x1 σ) n x2 = some rr → W p l e rm_X1_firstHole s m av below meth c H locs 0 0 (MQ below (mm_Qi G rr σ) av s 0 0 (mm_A G)) (F0 m 2 ls []))    (hf : evn (s_X1_firstHole h0 x1 σ) n (g_X1_firstHole_0 h0 x1 σ) = some rr) {H : Heap} {locs : List Loc} {ls : Array Slot} (hH : mm_H G s σ H locs) (hl : lv_has ls 4 [(0, .ref h0), (1, .int x1)]) : W p l e rm_X1_firstHole s m av below meth c H locs 0 0 (MQ below (mm_Qi G rr σ) av s 0 0 (mm_A G)) (F0 m 0 ls []) := by
  have hx := F.1
  have hb := F.2.1
  have hml := F.2.2.1
  have hown := F.2.2.2.1
  have hts := F.2.2.2.2.1
  unfold g_X1_firstHole_0 at hf
  refine lv_iconst (v := 0) hx hb dX1_firstHole_0 (by decide) ?_
  refine lv_istore_n (lv' := [(2, .int (0 : Int32)), (0, .ref h0), (1, .int x1)]) hx hb dX1_firstHole_1 rfl hl (by decide) rfl (fun ls hl => ?_)
  rw [evn_l] at hf
  exact IH2 (0 : Int32) _ _ _ hH (lv_sub hl [1, 2, 0] rfl) hf
set_option maxHeartbeats 4000000 in
theorem l_X1_firstHole {p : Program} {l : Launch} {e : Env} {s : State} {m : MethodId} {av : Array Value} {below : List Frame} {meth : Method} {c : Code} {G : mm_G} {rr : Int32} {σ : mm_M} {h0 : Nat} {x1 : Int32} (F : mm_F p s m av c RX1 cX1_firstHole 4 G) (hr : meth.sig.returnType = (Option.some .int)) (hlocks : meth.locks = false) (hname : meth.name = yX1_firstHole.name) : ∀ n : Nat, (∀ (x2 : Int32) (H : Heap) (locs : List Loc) (ls : Array Slot), mm_H G s σ H locs → lv_has ls 4 [(0, .ref h0), (1, .int x1), (2, .int x2)] → itn (s_X1_firstHole h0 x1 σ) n x2 = some rr → W p l e rm_X1_firstHole s m av below meth c H locs 0 0 (MQ below (mm_Qi G rr σ) av s 0 0 (mm_A G)) (F0 m 2 ls [])) := by
  intro n
  induction n with
  | zero =>
    exact fun x2 H locs ls hH hl hf => by cases hf
  | succ n ih =>
    have IH2 := ih
    intro x2 H locs ls hH hl hf
    rw [itn_s] at hf
    exact w_X1_firstHole_2 F hr hlocks hname IH2 x2 hf hH hl
set_option maxHeartbeats 4000000 in
theorem m_X1_firstHole (l : Launch) (G : mm_G) (h0 : Nat) (x1 : Int32) (σ : mm_M) (rr : Int32) (hf : f_X1_firstHole h0 x1 σ = some rr) : Met l yX1_firstHole (ws_ yX1_firstHole cX1_firstHole 4 ((Option.some .int))) rm_X1_firstHole (mm_Pc G [.ref h0, .int x1] σ) (mm_Qi G rr σ) 0 0 (mm_A G) := by
  refine mm_met (by decide) rfl rfl (by  exact Nat.le_of_ble_eq_true rfl) (fun p e s m below meth c ls F hH hr hlocks hname hl => ?_)
  have hl : lv_has ls 4 [(0, .ref h0), (1, .int x1)] := by  exact hl
  have F : mm_F p s m _ c RX1 cX1_firstHole 4 G := F
  unfold f_X1_firstHole at hf
  obtain ⟨n, hf⟩ := lgo_i hf
  have IH := l_X1_firstHole (l := l) (e := e) (below := below) (rr := rr) (σ := σ) (h0 := h0) (x1 := x1) F hr hlocks hname n
  exact w_X1_firstHole_0 F hr hlocks hname IH  hf hH (lv_sub hl [0, 1] rfl)
/-! IslandHeap$Thing.<init>(III)V -/
abbrev rm_X3_init : Room := { frames := 1, cells := 2, slots := 12, locals := 30 }
set_option maxHeartbeats 4000000 in
theorem w_X3_init_26 {p : Program} {l : Launch} {e : Env} {s : State} {m : MethodId} {av : Array Value} {below : List Frame} {meth : Method} {c : Code} {G : mm_G} {σf : mm_M} {n : Nat} {h0 : Nat} {x1 : Int32} {x2 : Int32} {x3 : Int32} (F : mm_F p s m av c RX3 cX3_init 5 G) (hr : meth.sig.returnType = (Option.none : Option Jvm.ClassFile.FieldType)) (hlocks : meth.locks = false) (hname : meth.name = yX3_init.name) (IH26 : ∀ (x4 : Int32) (σ : mm_M) (H : Heap) (locs : List Loc) (ls : Array Slot), mm_H G s σ H locs → lv_has ls 5 [(0, .ref h0), (1, .int x1), (2, .int x2), (3, .int x3), (4, .int x4)] → itn (s_X3_init h0 x1 x2 x3) n (x4, σ) = some σf → W p l e rm_X3_init s m av below meth c H locs 2 12 (MQ below (mm_Qv G σf) av s 2 12 (mm_A G)) (F0 m 26 ls []))  (x4 : Int32)  (σ : mm_M) (hf : evn (s_X3_init h0 x1 x2 x3) n (g_X3_init_26 h0 x1 x2 x3 x4 σ) = some σf) {H : Heap} {locs : List Loc} {ls : Array Slot} (hH : mm_H G s σ H locs) (hl : lv_has ls 5 [(0, .ref h0), (1, .int x1), (2, .int x2), (3, .int x3), (4, .int x4)]) : W p l e rm_X3_init s m av below meth c H locs 2 12 (MQ below (mm_Qv G σf) av s 2 12 (mm_A G)) (F0 m 26 ls []) := by
  have hx := F.1
  have hb := F.2.1
  have hml := F.2.2.1
  have hown := F.2.2.2.1
  have hts := F.2.2.2.2.1
  unfold g_X3_init_26 at hf
  refine lv_iload hx hb dX3_init_26 (lv_at hl 4 rfl) ?_
  refine lv_iload_n hx hb dX3_init_28 rfl (lv_at hl 2 rfl) ?_
  refine lv_icmp_ge (tgt := 46) hx hb dX3_init_29 (by decide) (fun c1 => ?_) (fun c1 => ?_)
  · rw [if_pos c1] at hf
    rw [evn_r] at hf
    have h1 := Option.some.inj hf
    subst h1
    exact mm_retv F hH hr hlocks dX3_init_46
  · rw [if_neg c1] at hf
    refine lv_aload_n hx hb dX3_init_32 rfl (lv_at hl 0 rfl) ?_
    replace hf := evn_b1 hf
    obtain ⟨q2, e1, hf⟩ := hf
    refine mm_getA F hH mc_3 (k := 1) (by decide) (hts _ q254) (fun _ h => h) e1 dX3_init_33 ?_
    refine lv_iload hx hb dX3_init_36 (lv_at hl 4 rfl) ?_
    refine lv_iconst (v := (-1)) hx hb dX3_init_38 (by decide) ?_
    replace hf := evn_b1 hf
    obtain ⟨σ3, e2, hf⟩ := hf
    refine mm_iast F hH e2 dX3_init_39 (fun H locs hH => ?_)
    refine lv_iinc (v := x4 + (1 : Int32)) (lv' := [(4, .int (x4 + (1 : Int32))), (0, .ref h0), (1, .int x1), (2, .int x2), (3, .int x3)]) hx hb dX3_init_40 hl (k := 4) rfl rfl (by decide) rfl (fun ls hl => ?_)
    refine lv_goto (tgt := 26) hx hb dX3_init_43 (by decide) ?_
    rw [evn_l] at hf
    exact IH26 (x4 + (1 : Int32)) σ3 _ _ _ hH (lv_sub hl [1, 2, 3, 4, 0] rfl) hf
set_option maxHeartbeats 4000000 in
theorem w_X3_init_0 {p : Program} {l : Launch} {e : Env} {s : State} {m : MethodId} {av : Array Value} {below : List Frame} {meth : Method} {c : Code} {G : mm_G} {σf : mm_M} {n : Nat} {h0 : Nat} {x1 : Int32} {x2 : Int32} {x3 : Int32} (F : mm_F p s m av c RX3 cX3_init 5 G) (hr : meth.sig.returnType = (Option.none : Option Jvm.ClassFile.FieldType)) (hlocks : meth.locks = false) (hname : meth.name = yX3_init.name) (IH26 : ∀ (x4 : Int32) (σ : mm_M) (H : Heap) (locs : List Loc) (ls : Array Slot), mm_H G s σ H locs → lv_has ls 5 [(0, .ref h0), (1, .int x1), (2, .int x2), (3, .int x3), (4, .int x4)] → itn (s_X3_init h0 x1 x2 x3) n (x4, σ) = some σf → W p l e rm_X3_init s m av below meth c H locs 2 12 (MQ below (mm_Qv G σf) av s 2 12 (mm_A G)) (F0 m 26 ls []))    (σ : mm_M) (hf : evn (s_X3_init h0 x1 x2 x3) n (g_X3_init_0 h0 x1 x2 x3 σ) = some σf) {H : Heap} {locs : List Loc} {ls : Array Slot} (hH : mm_H G s σ H locs) (hl : lv_has ls 5 [(0, .ref h0), (1, .int x1), (2, .int x2), (3, .int x3)]) : W p l e rm_X3_init s m av below meth c H locs 0 0 (MQ below (mm_Qv G σf) av s 2 12 (mm_A G)) (F0 m 0 ls []) := by
  have hx := F.1
  have hb := F.2.1
  have hml := F.2.2.1
  have hown := F.2.2.2.1
  have hts := F.2.2.2.2.1
  unfold g_X3_init_0 at hf
  refine lv_aload_n hx hb dX3_init_0 rfl (lv_at hl 0 rfl) ?_
  refine W.objInit hx hb hown (hts _ q249) (hts _ q96) (hts _ q97) rfl (hl.1.trans hml.symm) rfl dX3_init_1 (Nat.le_of_ble_eq_true rfl) (Nat.le_of_ble_eq_true rfl) ?_
  refine W.eq (g2 := F0 m 4 ls []) rfl ?_
  refine lv_aload_n hx hb dX3_init_4 rfl (lv_at hl 0 rfl) ?_
  refine lv_iload_n hx hb dX3_init_5 rfl (lv_at hl 1 rfl) ?_
  replace hf := evn_b1 hf
  obtain ⟨σ1, e1, hf⟩ := hf
  refine mm_put F hH mc_3 (k := 0) (v := vI x1) (by decide) (hts _ q250) (fun _ h => h) rfl rfl rfl e1 dX3_init_6 (fun H locs hH => ?_)
  refine lv_aload_n hx hb dX3_init_9 rfl (lv_at hl 0 rfl) ?_
  refine lv_iload_n hx hb dX3_init_10 rfl (lv_at hl 2 rfl) ?_
  replace hf := evn_b2 hf
  obtain ⟨q3, σ2, e2, hf⟩ := hf
  refine mm_newaI F hH (lim := 6) (hts _ q181) (Nat.le_of_ble_eq_true rfl) (Nat.le_of_ble_eq_true rfl) (by decide) e2 dX3_init_11 (fun H hH => ?_)
  replace hf := evn_b1 hf
  obtain ⟨σ4, e3, hf⟩ := hf
  refine mm_putF F hH mc_3 (k := 1) (v := vR (some q3)) (by decide) (hts _ q254) (fun _ h => h) rfl hname rfl rfl rfl e3 dX3_init_13 (fun H locs hH => ?_)
  refine lv_aload_n hx hb dX3_init_16 rfl (lv_at hl 0 rfl) ?_
  refine lv_iload_n hx hb dX3_init_17 rfl (lv_at hl 3 rfl) ?_
  replace hf := evn_b2 hf
  obtain ⟨q6, σ5, e4, hf⟩ := hf
  refine mm_newaI F hH (lim := 6) (hts _ q181) (Nat.le_of_ble_eq_true rfl) (Nat.le_of_ble_eq_true rfl) (by decide) e4 dX3_init_18 (fun H hH => ?_)
  replace hf := evn_b1 hf
  obtain ⟨σ7, e5, hf⟩ := hf
  refine mm_putF F hH mc_3 (k := 2) (v := vR (some q6)) (by decide) (hts _ q260) (fun _ h => h) rfl hname rfl rfl rfl e5 dX3_init_20 (fun H locs hH => ?_)
  refine lv_iconst (v := 0) hx hb dX3_init_23 (by decide) ?_
  refine lv_istore (lv' := [(4, .int (0 : Int32)), (0, .ref h0), (1, .int x1), (2, .int x2), (3, .int x3)]) hx hb dX3_init_24 hl (by decide) rfl (fun ls hl => ?_)
  rw [evn_l] at hf
  exact IH26 (0 : Int32) σ7 _ _ _ hH (lv_sub hl [1, 2, 3, 4, 0] rfl) hf
set_option maxHeartbeats 4000000 in
theorem l_X3_init {p : Program} {l : Launch} {e : Env} {s : State} {m : MethodId} {av : Array Value} {below : List Frame} {meth : Method} {c : Code} {G : mm_G} {σf : mm_M} {h0 : Nat} {x1 : Int32} {x2 : Int32} {x3 : Int32} (F : mm_F p s m av c RX3 cX3_init 5 G) (hr : meth.sig.returnType = (Option.none : Option Jvm.ClassFile.FieldType)) (hlocks : meth.locks = false) (hname : meth.name = yX3_init.name) : ∀ n : Nat, (∀ (x4 : Int32) (σ : mm_M) (H : Heap) (locs : List Loc) (ls : Array Slot), mm_H G s σ H locs → lv_has ls 5 [(0, .ref h0), (1, .int x1), (2, .int x2), (3, .int x3), (4, .int x4)] → itn (s_X3_init h0 x1 x2 x3) n (x4, σ) = some σf → W p l e rm_X3_init s m av below meth c H locs 2 12 (MQ below (mm_Qv G σf) av s 2 12 (mm_A G)) (F0 m 26 ls [])) := by
  intro n
  induction n with
  | zero =>
    exact fun x4 σ H locs ls hH hl hf => by cases hf
  | succ n ih =>
    have IH26 := ih
    intro x4 σ H locs ls hH hl hf
    rw [itn_s] at hf
    exact w_X3_init_26 F hr hlocks hname IH26 x4 σ hf hH hl
set_option maxHeartbeats 4000000 in
theorem m_X3_init (l : Launch) (G : mm_G) (h0 : Nat) (x1 : Int32) (x2 : Int32) (x3 : Int32) (σ : mm_M) (σf : mm_M) (hf : f_X3_init h0 x1 x2 x3 σ = some σf) : Met l yX3_init (ws_ yX3_init cX3_init 5 ((Option.none : Option Jvm.ClassFile.FieldType))) rm_X3_init (mm_Pc G [.ref h0, .int x1, .int x2, .int x3] σ) (mm_Qv G σf) 2 12 (mm_A G) := by
  refine mm_met (by decide) rfl rfl (by  exact Nat.le_of_ble_eq_true rfl) (fun p e s m below meth c ls F hH hr hlocks hname hl => ?_)
  have hl : lv_has ls 5 [(0, .ref h0), (1, .int x1), (2, .int x2), (3, .int x3)] := by  exact hl
  have F : mm_F p s m _ c RX3 cX3_init 5 G := F
  unfold f_X3_init at hf
  obtain ⟨n, hf⟩ := lgo_i hf
  have IH := l_X3_init (l := l) (e := e) (below := below) (σf := σf) (h0 := h0) (x1 := x1) (x2 := x2) (x3 := x3) F hr hlocks hname n
  exact w_X3_init_0 F hr hlocks hname IH σ hf hH (lv_sub hl [0, 1, 2, 3] rfl)
