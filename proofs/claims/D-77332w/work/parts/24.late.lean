/-! THOSE THAT THROW OR CATCH: functions and walks -/
set_option maxRecDepth 100000
/-! runOn by the interface: the class's own method -/
noncomputable def f_cmd (b h : Nat) (σ : mm_M) : Option (Int32 × mm_M) := match σ.1 b with
  | some (.inl o) =>
    if o.1 = 9 then f_X9_runOn b h σ
    else if o.1 = 10 then f_X10_runOn b h σ
    else if o.1 = 11 then f_X11_runOn b h σ
    else if o.1 = 12 then f_X12_runOn b h σ
    else if o.1 = 13 then f_X13_runOn b h σ
    else if o.1 = 14 then f_X14_runOn b h σ
    else none
  | _ => none
set_option maxHeartbeats 4000000 in
theorem mm_runOn {p : Program} {l : Launch} {e : Env} {R : Room} {s : State} {m : MethodId} {args : Array Value} {below : List Frame} {meth : Method} {c : Code} {H : Heap} {locs : List Loc} {cells slots : Nat} {cc : ByteArray} {pc nL index count : Nat} {ls : Array Slot} {rest : List Value} {own : String} {G : mm_G} {σ σ' : mm_M} {b h : Nat} {r : Int32} (F : mm_F p s m args c own cc nL G) (hH : mm_H G s σ H locs) (hv : f_cmd b h σ = some (r, σ')) (hlink : Cond.methodLink own index mm_xc ∈ lw_all) (hls : ls.size = nL) (hroom : (rest.map fun v => v.category).sum ≤ 8) (hdg : decode cc pc = .ok (.invokeinterface index count, 5)) (hfr : 8 + 1 ≤ R.frames) (hlo : 210 ≤ R.locals) (hf : cells + 4 ≤ R.cells ∧ slots + 268 ≤ R.slots) : va_Run5 p l e R s m args below meth c H locs cells slots 4 268 (F0 m pc ls (.ref h :: .ref b :: rest)) rest (mm_Qi G r σ' (Value.ref b :: [.ref h]).toArray) (mm_A G) := by
  have fw := F.2.2.2.2.2.2.2.2.2.2
  unfold f_cmd at hv
  split at hv
  · rename_i o ho
    by_cases c9 : o.1 = 9
    · rw [if_pos c9] at hv
      have ek : σ.1 b = some (.inl (9, o.2)) := by rw [ho, ← c9]
      exact mx_runw5 (mc := 4) (ms := 268) (by decide) (by decide) (va_runF (As := [.ref h]) (rest := rest) (F.2.2.2.2.2.1.1 9 _ rfl).2 ⟨F.1, F.2.1, F.2.2.1, F.2.2.2.1, F.2.2.2.2.1⟩ (m_X9_runOn l G b h σ σ' r hv) (va_cwF 1 F.2.2.2.2.1 (mx_pF hlink q942 q944 q84 q946) rfl rfl rfl fw.1 (by decide +kernel) ⟨Nat.le_trans (by decide) hfr, Nat.le_trans (by decide) hlo⟩) (mm_preV F.2.2.2.2.2 hH (ci := 9) rfl ek) rfl rfl hls rfl (lv_room hroom) hdg ⟨Nat.le_trans (Nat.add_le_add_left (by decide) _) hf.1, Nat.le_trans (Nat.add_le_add_left (by decide) _) hf.2⟩)
    rw [if_neg c9] at hv
    by_cases c10 : o.1 = 10
    · rw [if_pos c10] at hv
      have ek : σ.1 b = some (.inl (10, o.2)) := by rw [ho, ← c10]
      exact mx_runw5 (mc := 0) (ms := 0) (by decide) (by decide) (va_runF (As := [.ref h]) (rest := rest) (F.2.2.2.2.2.1.1 10 _ rfl).2 ⟨F.1, F.2.1, F.2.2.1, F.2.2.2.1, F.2.2.2.2.1⟩ (m_X10_runOn l G b h σ σ' r hv) (va_cwF 1 F.2.2.2.2.1 (mx_pF hlink q970 q972 q85 q974) rfl rfl rfl fw.2.1 (by decide +kernel) ⟨Nat.le_trans (by decide) hfr, Nat.le_trans (by decide) hlo⟩) (mm_preV F.2.2.2.2.2 hH (ci := 10) rfl ek) rfl rfl hls rfl (lv_room hroom) hdg ⟨Nat.le_trans (Nat.add_le_add_left (by decide) _) hf.1, Nat.le_trans (Nat.add_le_add_left (by decide) _) hf.2⟩)
    rw [if_neg c10] at hv
    by_cases c11 : o.1 = 11
    · rw [if_pos c11] at hv
      have ek : σ.1 b = some (.inl (11, o.2)) := by rw [ho, ← c11]
      exact mx_runw5 (mc := 0) (ms := 0) (by decide) (by decide) (va_runF (As := [.ref h]) (rest := rest) (F.2.2.2.2.2.1.1 11 _ rfl).2 ⟨F.1, F.2.1, F.2.2.1, F.2.2.2.1, F.2.2.2.2.1⟩ (m_X11_runOn l G b h σ σ' r hv) (va_cwF 1 F.2.2.2.2.1 (mx_pF hlink q977 q979 q86 q981) rfl rfl rfl fw.2.2.1 (by decide +kernel) ⟨Nat.le_trans (by decide) hfr, Nat.le_trans (by decide) hlo⟩) (mm_preV F.2.2.2.2.2 hH (ci := 11) rfl ek) rfl rfl hls rfl (lv_room hroom) hdg ⟨Nat.le_trans (Nat.add_le_add_left (by decide) _) hf.1, Nat.le_trans (Nat.add_le_add_left (by decide) _) hf.2⟩)
    rw [if_neg c11] at hv
    by_cases c12 : o.1 = 12
    · rw [if_pos c12] at hv
      have ek : σ.1 b = some (.inl (12, o.2)) := by rw [ho, ← c12]
      exact mx_runw5 (mc := 0) (ms := 0) (by decide) (by decide) (va_runF (As := [.ref h]) (rest := rest) (F.2.2.2.2.2.1.1 12 _ rfl).2 ⟨F.1, F.2.1, F.2.2.1, F.2.2.2.1, F.2.2.2.2.1⟩ (m_X12_runOn l G b h σ σ' r hv) (va_cwF 1 F.2.2.2.2.1 (mx_pF hlink q963 q965 q87 q967) rfl rfl rfl fw.2.2.2.1 (by decide +kernel) ⟨Nat.le_trans (by decide) hfr, Nat.le_trans (by decide) hlo⟩) (mm_preV F.2.2.2.2.2 hH (ci := 12) rfl ek) rfl rfl hls rfl (lv_room hroom) hdg ⟨Nat.le_trans (Nat.add_le_add_left (by decide) _) hf.1, Nat.le_trans (Nat.add_le_add_left (by decide) _) hf.2⟩)
    rw [if_neg c12] at hv
    by_cases c13 : o.1 = 13
    · rw [if_pos c13] at hv
      have ek : σ.1 b = some (.inl (13, o.2)) := by rw [ho, ← c13]
      exact mx_runw5 (mc := 0) (ms := 0) (by decide) (by decide) (va_runF (As := [.ref h]) (rest := rest) (F.2.2.2.2.2.1.1 13 _ rfl).2 ⟨F.1, F.2.1, F.2.2.1, F.2.2.2.1, F.2.2.2.2.1⟩ (m_X13_runOn l G b h σ σ' r hv) (va_cwF 1 F.2.2.2.2.1 (mx_pF hlink q956 q958 q88 q960) rfl rfl rfl fw.2.2.2.2.1 (by decide +kernel) ⟨Nat.le_trans (by decide) hfr, Nat.le_trans (by decide) hlo⟩) (mm_preV F.2.2.2.2.2 hH (ci := 13) rfl ek) rfl rfl hls rfl (lv_room hroom) hdg ⟨Nat.le_trans (Nat.add_le_add_left (by decide) _) hf.1, Nat.le_trans (Nat.add_le_add_left (by decide) _) hf.2⟩)
    rw [if_neg c13] at hv
    by_cases c14 : o.1 = 14
    · rw [if_pos c14] at hv
      have ek : σ.1 b = some (.inl (14, o.2)) := by rw [ho, ← c14]
      exact mx_runw5 (mc := 2) (ms := 14) (by decide) (by decide) (va_runF (As := [.ref h]) (rest := rest) (F.2.2.2.2.2.1.1 14 _ rfl).2 ⟨F.1, F.2.1, F.2.2.1, F.2.2.2.1, F.2.2.2.2.1⟩ (m_X14_runOn l G b h σ σ' r hv) (va_cwF 1 F.2.2.2.2.1 (mx_pF hlink q949 q951 q89 q953) rfl rfl rfl fw.2.2.2.2.2 (by decide +kernel) ⟨Nat.le_trans (by decide) hfr, Nat.le_trans (by decide) hlo⟩) (mm_preV F.2.2.2.2.2 hH (ci := 14) rfl ek) rfl rfl hls rfl (lv_room hroom) hdg ⟨Nat.le_trans (Nat.add_le_add_left (by decide) _) hf.1, Nat.le_trans (Nat.add_le_add_left (by decide) _) hf.2⟩)
    rw [if_neg c14] at hv
    cases hv
  · cases hv
/-! IslandHeap$ScriptReader.expect(Z)V -/
def f_X7_expect (h0 : Nat) (x1 : Int32) (σ : mm_M) : Option ((Unit ⊕ Nat) × mm_M) :=
  if x1 = 0 then (
    b2 (nO σ 8 df_8) fun qv3 σ2 =>
    (gI σ2 h0 7 0).bind fun v4 =>
    (f_X8_init qv3 v4 σ2).bind fun σ5 =>
    (ck σ5 qv3 8).bind fun _ =>
    some (.inr qv3, σ5))
  else (
    some (.inl (), σ))
/-! IslandHeap$ScriptReader.expect(Z)V -/
abbrev rm_X7_expect : Room := { frames := 4, cells := 1, slots := 7, locals := 99 }
set_option maxHeartbeats 4000000 in
theorem m_X7_expect (l : Launch) (G : mm_G) (h0 : Nat) (x1 : Int32) (σ : mm_M) (σf : mm_M) (rr : Unit ⊕ Nat) (hf : f_X7_expect h0 x1 σ = some (rr, σf)) : vy_Met l yX7_expect (ws_ yX7_expect cX7_expect 2 ((Option.none : Option Jvm.ClassFile.FieldType))) rm_X7_expect (mm_Pc G [.ref h0, .int x1] σ) (mx_Qv G rr σf) (mx_X G rr σf) 1 7 (mm_A G) := by
  refine mx_met (by decide) (by  exact Nat.le_of_ble_eq_true rfl) (fun p e s m below meth c ls F hH hr hlocks hname hnt hl => ?_)
  have hl : lv_has ls 2 [(0, .ref h0), (1, .int x1)] := by  exact hl
  have F : mm_F p s m _ c RX7 cX7_expect 2 G := F
  have hx := F.1
  have hb := F.2.1
  have hml := F.2.2.1
  have hown := F.2.2.2.1
  have hts := F.2.2.2.2.1
  unfold f_X7_expect at hf
  refine lv_iload_n hx hb dX7_expect_0 rfl (lv_at hl 1 rfl) ?_
  refine lv_if_ne (tgt := 16) hx hb dX7_expect_1 (by decide) (fun c1 => ?_) (fun c1 => ?_)
  · rw [if_neg c1] at hf
    obtain ⟨h1, h2⟩ := Prod.mk.inj (Option.some.inj hf)
    subst h1
    subst h2
    refine W.widen (k := 1) (n := 7) (Nat.le_of_ble_eq_true rfl) (Nat.le_of_ble_eq_true rfl) ?_
    exact mx_retv F hH hr hlocks rfl dX7_expect_16
  · rw [if_pos c1] at hf
    replace hf := b2_i hf
    obtain ⟨qv3, σ2, e1, hf⟩ := hf
    refine mm_new F hH mc_8 (hts _ q778) (hts _ q779) (hts _ q83) (Nat.le_of_ble_eq_true rfl) (Nat.le_of_ble_eq_true rfl) e1 dX7_expect_4 (fun H hH => ?_)
    refine lv_dup hx hb dX7_expect_7 rfl ?_
    refine lv_aload_n hx hb dX7_expect_8 rfl (lv_at hl 0 rfl) ?_
    replace hf := b1_i hf
    obtain ⟨v4, e2, hf⟩ := hf
    refine mm_getI F hH mc_7 (k := 0) (by decide) (hts _ q735) (fun _ h => h) e2 dX7_expect_9 ?_
    replace hf := b1_i hf
    obtain ⟨σ5, e3, hf⟩ := hf
    refine mm_cv (va_runI (As := [.int v4]) (rest := [.ref qv3]) ⟨hx, hb, hml, hown, hts⟩ (m_X8_init l G qv3 v4 σ2 σ5 e3) (cwI 1 hts (lw_meth q817) rfl rfl rfl (hts _ q83) (hts _ q815) (hts _ q816) rfl (by decide +kernel) ⟨Nat.le_of_ble_eq_true rfl, Nat.le_of_ble_eq_true rfl⟩) (mm_preS F.2.2.2.2.2 hH) rfl rfl hl.1 rfl (lv_room (Nat.le_of_ble_eq_true rfl)) dX7_expect_12 ⟨Nat.le_of_ble_eq_true rfl, Nat.le_of_ble_eq_true rfl⟩) hH (fun H locs hH => ?_)
    replace hf := b1_i hf
    obtain ⟨u, e4, hf⟩ := hf
    have h8 := e4
    obtain ⟨h1, h2⟩ := Prod.mk.inj (Option.some.inj hf)
    subst h1
    subst h2
    exact mx_thr F hH h8 dX7_expect_15 hnt hlocks rfl (Nat.le_of_ble_eq_true rfl) (Nat.le_of_ble_eq_true rfl)
/-! IslandHeap$ScriptReader.digit()I -/
noncomputable def f_X7_digit (h0 : Nat) (σ : mm_M) : Option ((Int32 ⊕ Nat) × mm_M) :=
  (ck σ h0 7).bind fun _ =>
  (f_X7_isDigit h0 σ).bind fun v1 =>
  (ck σ h0 7).bind fun _ =>
  b2 (f_X7_expect h0 v1 σ) fun r3 σ2 =>
  xs r3 (fun qv4 =>
    some (.inr qv4, σ2)) (fun u5 =>
    (ck σ2 h0 7).bind fun _ =>
    (f_X7_next h0 σ2).bind fun v6 =>
    (gI σ2 h0 7 0).bind fun v7 =>
    (pF σ2 h0 7 0 (vI (v7 + (1 : Int32)))).bind fun σ8 =>
    (ck σ8 h0 7).bind fun _ =>
    (f_X7_blanks h0 σ8).bind fun σ9 =>
    some (.inl (v6 - (48 : Int32)), σ9))
/-! IslandHeap$ScriptReader.digit()I -/
abbrev rm_X7_digit : Room := { frames := 5, cells := 1, slots := 7, locals := 120 }
set_option maxHeartbeats 4000000 in
theorem m_X7_digit (l : Launch) (G : mm_G) (h0 : Nat) (σ : mm_M) (σf : mm_M) (rr : Int32 ⊕ Nat) (hf : f_X7_digit h0 σ = some (rr, σf)) : vy_Met l yX7_digit (ws_ yX7_digit cX7_digit 2 ((Option.some .int))) rm_X7_digit (mm_Pc G [.ref h0] σ) (mx_Qi G rr σf) (mx_X G rr σf) 1 7 (mm_A G) := by
  refine mx_met (by decide) (by  exact Nat.le_of_ble_eq_true rfl) (fun p e s m below meth c ls F hH hr hlocks hname hnt hl => ?_)
  have hl : lv_has ls 2 [(0, .ref h0)] := by  exact hl
  have F : mm_F p s m _ c RX7 cX7_digit 2 G := F
  have hx := F.1
  have hb := F.2.1
  have hml := F.2.2.1
  have hown := F.2.2.2.1
  have hts := F.2.2.2.2.1
  unfold f_X7_digit at hf
  refine lv_aload_n hx hb dX7_digit_0 rfl (lv_at hl 0 rfl) ?_
  refine lv_aload_n hx hb dX7_digit_1 rfl (lv_at hl 0 rfl) ?_
  replace hf := b1_i hf
  obtain ⟨u, e1, hf⟩ := hf
  obtain ⟨fs, ek⟩ := ck_i e1
  replace hf := b1_i hf
  obtain ⟨v1, e2, hf⟩ := hf
  refine mm_ci (va_runV (As := []) (rest := [.ref h0]) ⟨hx, hb, hml, hown, hts⟩ (m_X7_isDigit l G h0 σ v1 e2) (cwV 0 hts (lw_V q769 q771 qs23 q80 q772) rfl rfl rfl (by decide +kernel) ⟨Nat.le_of_ble_eq_true rfl, Nat.le_of_ble_eq_true rfl⟩) (mm_preV F.2.2.2.2.2 hH (ci := 7) rfl ek) rfl rfl hl.1 rfl (lv_room (Nat.le_of_ble_eq_true rfl)) dX7_digit_2 ⟨Nat.le_of_ble_eq_true rfl, Nat.le_of_ble_eq_true rfl⟩) hH (fun H locs hH => ?_)
  replace hf := b1_i hf
  obtain ⟨u, e3, hf⟩ := hf
  obtain ⟨fs, ek⟩ := ck_i e3
  replace hf := b2_i hf
  obtain ⟨r3, σ2, e4, hf⟩ := hf
  refine mx_cv (vy_runV (As := [.int v1]) (rest := []) ⟨hx, hb, hml, hown, hts⟩ (m_X7_expect l G h0 v1 σ σ2 r3 e4) (cwV 1 hts (lw_V q774 q776 qs24 q80 q777) rfl rfl rfl (by decide +kernel) ⟨Nat.le_of_ble_eq_true rfl, Nat.le_of_ble_eq_true rfl⟩) (mm_preV F.2.2.2.2.2 hH (ci := 7) rfl ek) rfl rfl hl.1 rfl (lv_room (Nat.le_of_ble_eq_true rfl)) dX7_digit_5 ⟨Nat.le_of_ble_eq_true rfl, Nat.le_of_ble_eq_true rfl⟩) hH (fun qv4 H locs E ce hq hH c1 c2 c3 => ?_) (fun u5 H locs hq hH => ?_)
  · subst hq
    rw [xs_r] at hf
    obtain ⟨h1, h2⟩ := Prod.mk.inj (Option.some.inj hf)
    subst h1
    subst h2
    exact mx_out hnt hlocks hH c1 c2 c3 rfl (Nat.le_of_ble_eq_true rfl) (Nat.le_of_ble_eq_true rfl)
  · subst hq
    rw [xs_l] at hf
    refine lv_aload_n hx hb dX7_digit_8 rfl (lv_at hl 0 rfl) ?_
    replace hf := b1_i hf
    obtain ⟨u, e5, hf⟩ := hf
    obtain ⟨fs, ek⟩ := ck_i e5
    replace hf := b1_i hf
    obtain ⟨v6, e6, hf⟩ := hf
    refine mm_ci (va_runV (As := []) (rest := []) ⟨hx, hb, hml, hown, hts⟩ (m_X7_next l G h0 σ2 v6 e6) (cwV 0 hts (lw_V q753 q755 qs19 q80 q756) rfl rfl rfl (by decide +kernel) ⟨Nat.le_of_ble_eq_true rfl, Nat.le_of_ble_eq_true rfl⟩) (mm_preV F.2.2.2.2.2 hH (ci := 7) rfl ek) rfl rfl hl.1 rfl (lv_room (Nat.le_of_ble_eq_true rfl)) dX7_digit_9 ⟨Nat.le_of_ble_eq_true rfl, Nat.le_of_ble_eq_true rfl⟩) hH (fun H locs hH => ?_)
    refine lv_bipush (v := 48) hx hb dX7_digit_12 (by decide) ?_
    refine lv_isub hx hb dX7_digit_14 ?_
    refine lv_istore_n (lv' := [(1, .int (v6 - (48 : Int32))), (0, .ref h0)]) hx hb dX7_digit_15 rfl hl (by decide) rfl (fun ls hl => ?_)
    refine lv_aload_n hx hb dX7_digit_16 rfl (lv_at hl 1 rfl) ?_
    refine lv_dup hx hb dX7_digit_17 rfl ?_
    replace hf := b1_i hf
    obtain ⟨v7, e7, hf⟩ := hf
    refine mm_getI F hH mc_7 (k := 0) (by decide) (hts _ q735) (fun _ h => h) e7 dX7_digit_18 ?_
    refine lv_iconst (v := 1) hx hb dX7_digit_21 (by decide) ?_
    refine lv_iadd hx hb dX7_digit_22 ?_
    replace hf := b1_i hf
    obtain ⟨σ8, e8, hf⟩ := hf
    refine mm_put F hH mc_7 (k := 0) (v := vI (v7 + (1 : Int32))) (by decide) (hts _ q735) (fun _ h => h) rfl rfl rfl e8 dX7_digit_23 (fun H locs hH => ?_)
    refine lv_aload_n hx hb dX7_digit_26 rfl (lv_at hl 1 rfl) ?_
    replace hf := b1_i hf
    obtain ⟨u, e9, hf⟩ := hf
    obtain ⟨fs, ek⟩ := ck_i e9
    replace hf := b1_i hf
    obtain ⟨σ9, e10, hf⟩ := hf
    refine mm_cv (va_runV (As := []) (rest := []) ⟨hx, hb, hml, hown, hts⟩ (m_X7_blanks l G h0 σ8 σ9 e10) (cwV 0 hts (lw_V q749 q751 qs18 q80 q752) rfl rfl rfl (by decide +kernel) ⟨Nat.le_of_ble_eq_true rfl, Nat.le_of_ble_eq_true rfl⟩) (mm_preV F.2.2.2.2.2 hH (ci := 7) rfl ek) rfl rfl hl.1 rfl (lv_room (Nat.le_of_ble_eq_true rfl)) dX7_digit_27 ⟨Nat.le_of_ble_eq_true rfl, Nat.le_of_ble_eq_true rfl⟩) hH (fun H locs hH => ?_)
    refine lv_iload_n hx hb dX7_digit_30 rfl (lv_at hl 0 rfl) ?_
    obtain ⟨h1, h2⟩ := Prod.mk.inj (Option.some.inj hf)
    subst h1
    subst h2
    exact mx_reti F hH hr hlocks rfl rfl dX7_digit_31
/-! IslandHeap$ScriptReader.number()I -/
noncomputable def g_X7_number_58 (h0 : Nat) (x2 : Int32)  (σ : mm_M) : Option (((Int32 × Int32 × mm_M)) ⊕ ((Int32 ⊕ Nat) × mm_M)) :=
  (ck σ h0 7).bind fun _ =>
  (f_X7_isDigit h0 σ).bind fun v1 =>
  if v1 = 0 then (
    (ck σ h0 7).bind fun _ =>
    b2 (f_X7_expect h0 (1 : Int32) σ) fun r9 σ8 =>
    xs r9 (fun qv10 =>
      some (.inr (.inr qv10, σ8))) (fun u11 =>
      (ck σ8 h0 7).bind fun _ =>
      (f_X7_blanks h0 σ8).bind fun σ12 =>
      some (.inr (.inl x2, σ12))))
  else (
    (ck σ h0 7).bind fun _ =>
    b2 (f_X7_expect h0 (0 : Int32) σ) fun r4 σ3 =>
    xs r4 (fun qv5 =>
      some (.inr (.inr qv5, σ3))) (fun u6 =>
      (ck σ3 h0 7).bind fun _ =>
      (f_X7_blanks h0 σ3).bind fun σ7 =>
      some (.inr (.inl x2, σ7))))
noncomputable def g_X7_number_15 (h0 : Nat) (x1 : Int32) (x2 : Int32)  (σ : mm_M) : Option (((Int32 × Int32 × mm_M)) ⊕ ((Int32 ⊕ Nat) × mm_M)) :=
  (ck σ h0 7).bind fun _ =>
  (f_X7_isDigit h0 σ).bind fun v1 =>
  if v1 = 0 then (
    g_X7_number_58 h0 x2 σ)
  else (
    (gI σ h0 7 0).bind fun v3 =>
    if (x1 + (3 : Int32)) ≤ v3 then (
      g_X7_number_58 h0 x2 σ)
    else (
      (ck σ h0 7).bind fun _ =>
      (f_X7_next h0 σ).bind fun v5 =>
      (gI σ h0 7 0).bind fun v6 =>
      (pF σ h0 7 0 (vI (v6 + (1 : Int32)))).bind fun σ7 =>
      some (.inl (x1, ((((10 : Int32) * x2) + v5) - (48 : Int32)), σ7))))
noncomputable def g_X7_number_0 (h0 : Nat)   (σ : mm_M) : Option (((Int32 × Int32 × mm_M)) ⊕ ((Int32 ⊕ Nat) × mm_M)) :=
  (gI σ h0 7 0).bind fun v1 =>
  (ck σ h0 7).bind fun _ =>
  (f_X7_isDigit h0 σ).bind fun v2 =>
  (ck σ h0 7).bind fun _ =>
  b2 (f_X7_expect h0 v2 σ) fun r4 σ3 =>
  xs r4 (fun qv5 =>
    some (.inr (.inr qv5, σ3))) (fun u6 =>
    some (.inl (v1, (0 : Int32), σ3)))
noncomputable def s_X7_number (h0 : Nat) : (Int32 × Int32 × mm_M) → Option (((Int32 × Int32 × mm_M)) ⊕ ((Int32 ⊕ Nat) × mm_M)) := fun s => g_X7_number_15 h0 s.1 s.2.1 s.2.2
noncomputable def f_X7_number (h0 : Nat) (σ : mm_M) : Option ((Int32 ⊕ Nat) × mm_M) := lgo (s_X7_number h0) (g_X7_number_0 h0 σ)
/-! IslandHeap$ScriptReader.number()I -/
abbrev rm_X7_number : Room := { frames := 5, cells := 2, slots := 14, locals := 120 }
set_option maxHeartbeats 4000000 in
theorem w_X7_number_58 {p : Program} {l : Launch} {e : Env} {s : State} {m : MethodId} {av : Array Value} {below : List Frame} {meth : Method} {c : Code} {G : mm_G} {σf : mm_M} {rr : Int32 ⊕ Nat} {n : Nat} {h0 : Nat} (F : mm_F p s m av c RX7 cX7_number 3 G) (hr : meth.sig.returnType = (Option.some .int)) (hlocks : meth.locks = false) (hname : meth.name = yX7_number.name) (hnt : ∀ x ∈ c.exceptionTable.toList, False) (IH15 : ∀ (x1 : Int32) (x2 : Int32) (σ : mm_M) (H : Heap) (locs : List Loc) (ls : Array Slot), mm_H G s σ H locs → lv_has ls 3 [(0, .ref h0), (1, .int x1), (2, .int x2)] → itn (s_X7_number h0) n (x1, x2, σ) = some (rr, σf) → W p l e rm_X7_number s m av below meth c H locs 1 7 (vy_MQ below (mx_Qi G rr σf) (mx_X G rr σf) av s 2 14 (mm_A G)) (F0 m 15 ls []))  (x2 : Int32)  (σ : mm_M) (hf : evn (s_X7_number h0) n (g_X7_number_58 h0 x2 σ) = some (rr, σf)) {H : Heap} {locs : List Loc} {ls : Array Slot} (hH : mm_H G s σ H locs) (hl : lv_has ls 3 [(0, .ref h0), (2, .int x2)]) : W p l e rm_X7_number s m av below meth c H locs 1 7 (vy_MQ below (mx_Qi G rr σf) (mx_X G rr σf) av s 2 14 (mm_A G)) (F0 m 58 ls []) := by
  have hx := F.1
  have hb := F.2.1
  have hml := F.2.2.1
  have hown := F.2.2.2.1
  have hts := F.2.2.2.2.1
  unfold g_X7_number_58 at hf
  refine lv_aload_n hx hb dX7_number_58 rfl (lv_at hl 0 rfl) ?_
  refine lv_aload_n hx hb dX7_number_59 rfl (lv_at hl 0 rfl) ?_
  replace hf := evn_b1 hf
  obtain ⟨u, e1, hf⟩ := hf
  obtain ⟨fs, ek⟩ := ck_i e1
  replace hf := evn_b1 hf
  obtain ⟨v1, e2, hf⟩ := hf
  refine mm_ci (va_runV (As := []) (rest := [.ref h0]) ⟨hx, hb, hml, hown, hts⟩ (m_X7_isDigit l G h0 σ v1 e2) (cwV 0 hts (lw_V q769 q771 qs23 q80 q772) rfl rfl rfl (by decide +kernel) ⟨Nat.le_of_ble_eq_true rfl, Nat.le_of_ble_eq_true rfl⟩) (mm_preV F.2.2.2.2.2 hH (ci := 7) rfl ek) rfl rfl hl.1 rfl (lv_room (Nat.le_of_ble_eq_true rfl)) dX7_number_60 ⟨Nat.le_of_ble_eq_true rfl, Nat.le_of_ble_eq_true rfl⟩) hH (fun H locs hH => ?_)
  refine lv_if_ne (tgt := 70) hx hb dX7_number_63 (by decide) (fun c2 => ?_) (fun c2 => ?_)
  · rw [if_neg c2] at hf
    refine lv_iconst (v := 0) hx hb dX7_number_70 (by decide) ?_
    replace hf := evn_b1 hf
    obtain ⟨u, e3, hf⟩ := hf
    obtain ⟨fs, ek⟩ := ck_i e3
    replace hf := evn_b2 hf
    obtain ⟨r4, σ3, e4, hf⟩ := hf
    refine mx_cv (vy_runV (As := [.int (0 : Int32)]) (rest := []) ⟨hx, hb, hml, hown, hts⟩ (m_X7_expect l G h0 (0 : Int32) σ σ3 r4 e4) (cwV 1 hts (lw_V q774 q776 qs24 q80 q777) rfl rfl rfl (by decide +kernel) ⟨Nat.le_of_ble_eq_true rfl, Nat.le_of_ble_eq_true rfl⟩) (mm_preV F.2.2.2.2.2 hH (ci := 7) rfl ek) rfl rfl hl.1 rfl (lv_room (Nat.le_of_ble_eq_true rfl)) dX7_number_71 ⟨Nat.le_of_ble_eq_true rfl, Nat.le_of_ble_eq_true rfl⟩) hH (fun qv5 H locs E ce hq hH c1 c2 c3 => ?_) (fun u6 H locs hq hH => ?_)
    · subst hq
      rw [xs_r] at hf
      rw [evn_r] at hf
      obtain ⟨h1, h2⟩ := Prod.mk.inj (Option.some.inj hf)
      subst h1
      subst h2
      exact mx_out hnt hlocks hH c1 c2 c3 rfl (Nat.le_of_ble_eq_true rfl) (Nat.le_of_ble_eq_true rfl)
    · subst hq
      rw [xs_l] at hf
      refine lv_aload_n hx hb dX7_number_74 rfl (lv_at hl 0 rfl) ?_
      replace hf := evn_b1 hf
      obtain ⟨u, e5, hf⟩ := hf
      obtain ⟨fs, ek⟩ := ck_i e5
      replace hf := evn_b1 hf
      obtain ⟨σ7, e6, hf⟩ := hf
      refine mm_cv (va_runV (As := []) (rest := []) ⟨hx, hb, hml, hown, hts⟩ (m_X7_blanks l G h0 σ3 σ7 e6) (cwV 0 hts (lw_V q749 q751 qs18 q80 q752) rfl rfl rfl (by decide +kernel) ⟨Nat.le_of_ble_eq_true rfl, Nat.le_of_ble_eq_true rfl⟩) (mm_preV F.2.2.2.2.2 hH (ci := 7) rfl ek) rfl rfl hl.1 rfl (lv_room (Nat.le_of_ble_eq_true rfl)) dX7_number_75 ⟨Nat.le_of_ble_eq_true rfl, Nat.le_of_ble_eq_true rfl⟩) hH (fun H locs hH => ?_)
      refine lv_iload_n hx hb dX7_number_78 rfl (lv_at hl 1 rfl) ?_
      rw [evn_r] at hf
      obtain ⟨h1, h2⟩ := Prod.mk.inj (Option.some.inj hf)
      subst h1
      subst h2
      exact mx_reti F hH hr hlocks rfl rfl dX7_number_79
  · rw [if_pos c2] at hf
    refine lv_iconst (v := 1) hx hb dX7_number_66 (by decide) ?_
    refine lv_goto (tgt := 71) hx hb dX7_number_67 (by decide) ?_
    replace hf := evn_b1 hf
    obtain ⟨u, e7, hf⟩ := hf
    obtain ⟨fs, ek⟩ := ck_i e7
    replace hf := evn_b2 hf
    obtain ⟨r9, σ8, e8, hf⟩ := hf
    refine mx_cv (vy_runV (As := [.int (1 : Int32)]) (rest := []) ⟨hx, hb, hml, hown, hts⟩ (m_X7_expect l G h0 (1 : Int32) σ σ8 r9 e8) (cwV 1 hts (lw_V q774 q776 qs24 q80 q777) rfl rfl rfl (by decide +kernel) ⟨Nat.le_of_ble_eq_true rfl, Nat.le_of_ble_eq_true rfl⟩) (mm_preV F.2.2.2.2.2 hH (ci := 7) rfl ek) rfl rfl hl.1 rfl (lv_room (Nat.le_of_ble_eq_true rfl)) dX7_number_71 ⟨Nat.le_of_ble_eq_true rfl, Nat.le_of_ble_eq_true rfl⟩) hH (fun qv10 H locs E ce hq hH c1 c2 c3 => ?_) (fun u11 H locs hq hH => ?_)
    · subst hq
      rw [xs_r] at hf
      rw [evn_r] at hf
      obtain ⟨h1, h2⟩ := Prod.mk.inj (Option.some.inj hf)
      subst h1
      subst h2
      exact mx_out hnt hlocks hH c1 c2 c3 rfl (Nat.le_of_ble_eq_true rfl) (Nat.le_of_ble_eq_true rfl)
    · subst hq
      rw [xs_l] at hf
      refine lv_aload_n hx hb dX7_number_74 rfl (lv_at hl 0 rfl) ?_
      replace hf := evn_b1 hf
      obtain ⟨u, e9, hf⟩ := hf
      obtain ⟨fs, ek⟩ := ck_i e9
      replace hf := evn_b1 hf
      obtain ⟨σ12, e10, hf⟩ := hf
      refine mm_cv (va_runV (As := []) (rest := []) ⟨hx, hb, hml, hown, hts⟩ (m_X7_blanks l G h0 σ8 σ12 e10) (cwV 0 hts (lw_V q749 q751 qs18 q80 q752) rfl rfl rfl (by decide +kernel) ⟨Nat.le_of_ble_eq_true rfl, Nat.le_of_ble_eq_true rfl⟩) (mm_preV F.2.2.2.2.2 hH (ci := 7) rfl ek) rfl rfl hl.1 rfl (lv_room (Nat.le_of_ble_eq_true rfl)) dX7_number_75 ⟨Nat.le_of_ble_eq_true rfl, Nat.le_of_ble_eq_true rfl⟩) hH (fun H locs hH => ?_)
      refine lv_iload_n hx hb dX7_number_78 rfl (lv_at hl 1 rfl) ?_
      rw [evn_r] at hf
      obtain ⟨h1, h2⟩ := Prod.mk.inj (Option.some.inj hf)
      subst h1
      subst h2
      exact mx_reti F hH hr hlocks rfl rfl dX7_number_79
set_option maxHeartbeats 4000000 in
theorem w_X7_number_15 {p : Program} {l : Launch} {e : Env} {s : State} {m : MethodId} {av : Array Value} {below : List Frame} {meth : Method} {c : Code} {G : mm_G} {σf : mm_M} {rr : Int32 ⊕ Nat} {n : Nat} {h0 : Nat} (F : mm_F p s m av c RX7 cX7_number 3 G) (hr : meth.sig.returnType = (Option.some .int)) (hlocks : meth.locks = false) (hname : meth.name = yX7_number.name) (hnt : ∀ x ∈ c.exceptionTable.toList, False) (IH15 : ∀ (x1 : Int32) (x2 : Int32) (σ : mm_M) (H : Heap) (locs : List Loc) (ls : Array Slot), mm_H G s σ H locs → lv_has ls 3 [(0, .ref h0), (1, .int x1), (2, .int x2)] → itn (s_X7_number h0) n (x1, x2, σ) = some (rr, σf) → W p l e rm_X7_number s m av below meth c H locs 1 7 (vy_MQ below (mx_Qi G rr σf) (mx_X G rr σf) av s 2 14 (mm_A G)) (F0 m 15 ls []))  (x1 : Int32) (x2 : Int32)  (σ : mm_M) (hf : evn (s_X7_number h0) n (g_X7_number_15 h0 x1 x2 σ) = some (rr, σf)) {H : Heap} {locs : List Loc} {ls : Array Slot} (hH : mm_H G s σ H locs) (hl : lv_has ls 3 [(0, .ref h0), (1, .int x1), (2, .int x2)]) : W p l e rm_X7_number s m av below meth c H locs 1 7 (vy_MQ below (mx_Qi G rr σf) (mx_X G rr σf) av s 2 14 (mm_A G)) (F0 m 15 ls []) := by
  have hx := F.1
  have hb := F.2.1
  have hml := F.2.2.1
  have hown := F.2.2.2.1
  have hts := F.2.2.2.2.1
  unfold g_X7_number_15 at hf
  refine lv_aload_n hx hb dX7_number_15 rfl (lv_at hl 0 rfl) ?_
  replace hf := evn_b1 hf
  obtain ⟨u, e1, hf⟩ := hf
  obtain ⟨fs, ek⟩ := ck_i e1
  replace hf := evn_b1 hf
  obtain ⟨v1, e2, hf⟩ := hf
  refine mm_ci (va_runV (As := []) (rest := []) ⟨hx, hb, hml, hown, hts⟩ (m_X7_isDigit l G h0 σ v1 e2) (cwV 0 hts (lw_V q769 q771 qs23 q80 q772) rfl rfl rfl (by decide +kernel) ⟨Nat.le_of_ble_eq_true rfl, Nat.le_of_ble_eq_true rfl⟩) (mm_preV F.2.2.2.2.2 hH (ci := 7) rfl ek) rfl rfl hl.1 rfl (lv_room (Nat.le_of_ble_eq_true rfl)) dX7_number_16 ⟨Nat.le_of_ble_eq_true rfl, Nat.le_of_ble_eq_true rfl⟩) hH (fun H locs hH => ?_)
  refine lv_if_eq (tgt := 58) hx hb dX7_number_19 (by decide) (fun c2 => ?_) (fun c2 => ?_)
  · rw [if_pos c2] at hf
    exact w_X7_number_58 F hr hlocks hname hnt IH15 x2 σ hf hH (lv_sub hl [0, 2] rfl)
  · rw [if_neg c2] at hf
    refine lv_aload_n hx hb dX7_number_22 rfl (lv_at hl 0 rfl) ?_
    replace hf := evn_b1 hf
    obtain ⟨v3, e3, hf⟩ := hf
    refine mm_getI F hH mc_7 (k := 0) (by decide) (hts _ q735) (fun _ h => h) e3 dX7_number_23 ?_
    refine lv_iload_n hx hb dX7_number_26 rfl (lv_at hl 1 rfl) ?_
    refine lv_iconst (v := 3) hx hb dX7_number_27 (by decide) ?_
    refine lv_iadd hx hb dX7_number_28 ?_
    refine lv_icmp_ge (tgt := 58) hx hb dX7_number_29 (by decide) (fun c4 => ?_) (fun c4 => ?_)
    · rw [if_pos c4] at hf
      exact w_X7_number_58 F hr hlocks hname hnt IH15 x2 σ hf hH (lv_sub hl [0, 2] rfl)
    · rw [if_neg c4] at hf
      refine lv_bipush (v := 10) hx hb dX7_number_32 (by decide) ?_
      refine lv_iload_n hx hb dX7_number_34 rfl (lv_at hl 2 rfl) ?_
      refine lv_imul hx hb dX7_number_35 ?_
      refine lv_aload_n hx hb dX7_number_36 rfl (lv_at hl 0 rfl) ?_
      replace hf := evn_b1 hf
      obtain ⟨u, e4, hf⟩ := hf
      obtain ⟨fs, ek⟩ := ck_i e4
      replace hf := evn_b1 hf
      obtain ⟨v5, e5, hf⟩ := hf
      refine mm_ci (va_runV (As := []) (rest := [.int ((10 : Int32) * x2)]) ⟨hx, hb, hml, hown, hts⟩ (m_X7_next l G h0 σ v5 e5) (cwV 0 hts (lw_V q753 q755 qs19 q80 q756) rfl rfl rfl (by decide +kernel) ⟨Nat.le_of_ble_eq_true rfl, Nat.le_of_ble_eq_true rfl⟩) (mm_preV F.2.2.2.2.2 hH (ci := 7) rfl ek) rfl rfl hl.1 rfl (lv_room (Nat.le_of_ble_eq_true rfl)) dX7_number_37 ⟨Nat.le_of_ble_eq_true rfl, Nat.le_of_ble_eq_true rfl⟩) hH (fun H locs hH => ?_)
      refine lv_iadd hx hb dX7_number_40 ?_
      refine lv_bipush (v := 48) hx hb dX7_number_41 (by decide) ?_
      refine lv_isub hx hb dX7_number_43 ?_
      refine lv_istore_n (lv' := [(2, .int ((((10 : Int32) * x2) + v5) - (48 : Int32))), (0, .ref h0), (1, .int x1)]) hx hb dX7_number_44 rfl hl (by decide) rfl (fun ls hl => ?_)
      refine lv_aload_n hx hb dX7_number_45 rfl (lv_at hl 1 rfl) ?_
      refine lv_dup hx hb dX7_number_46 rfl ?_
      replace hf := evn_b1 hf
      obtain ⟨v6, e6, hf⟩ := hf
      refine mm_getI F hH mc_7 (k := 0) (by decide) (hts _ q735) (fun _ h => h) e6 dX7_number_47 ?_
      refine lv_iconst (v := 1) hx hb dX7_number_50 (by decide) ?_
      refine lv_iadd hx hb dX7_number_51 ?_
      replace hf := evn_b1 hf
      obtain ⟨σ7, e7, hf⟩ := hf
      refine mm_put F hH mc_7 (k := 0) (v := vI (v6 + (1 : Int32))) (by decide) (hts _ q735) (fun _ h => h) rfl rfl rfl e7 dX7_number_52 (fun H locs hH => ?_)
      refine lv_goto (tgt := 15) hx hb dX7_number_55 (by decide) ?_
      rw [evn_l] at hf
      exact IH15 x1 ((((10 : Int32) * x2) + v5) - (48 : Int32)) σ7 _ _ _ hH (lv_sub hl [1, 2, 0] rfl) hf
set_option maxHeartbeats 4000000 in
theorem w_X7_number_0 {p : Program} {l : Launch} {e : Env} {s : State} {m : MethodId} {av : Array Value} {below : List Frame} {meth : Method} {c : Code} {G : mm_G} {σf : mm_M} {rr : Int32 ⊕ Nat} {n : Nat} {h0 : Nat} (F : mm_F p s m av c RX7 cX7_number 3 G) (hr : meth.sig.returnType = (Option.some .int)) (hlocks : meth.locks = false) (hname : meth.name = yX7_number.name) (hnt : ∀ x ∈ c.exceptionTable.toList, False) (IH15 : ∀ (x1 : Int32) (x2 : Int32) (σ : mm_M) (H : Heap) (locs : List Loc) (ls : Array Slot), mm_H G s σ H locs → lv_has ls 3 [(0, .ref h0), (1, .int x1), (2, .int x2)] → itn (s_X7_number h0) n (x1, x2, σ) = some (rr, σf) → W p l e rm_X7_number s m av below meth c H locs 1 7 (vy_MQ below (mx_Qi G rr σf) (mx_X G rr σf) av s 2 14 (mm_A G)) (F0 m 15 ls []))    (σ : mm_M) (hf : evn (s_X7_number h0) n (g_X7_number_0 h0 σ) = some (rr, σf)) {H : Heap} {locs : List Loc} {ls : Array Slot} (hH : mm_H G s σ H locs) (hl : lv_has ls 3 [(0, .ref h0)]) : W p l e rm_X7_number s m av below meth c H locs 0 0 (vy_MQ below (mx_Qi G rr σf) (mx_X G rr σf) av s 2 14 (mm_A G)) (F0 m 0 ls []) := by
  have hx := F.1
  have hb := F.2.1
  have hml := F.2.2.1
  have hown := F.2.2.2.1
  have hts := F.2.2.2.2.1
  unfold g_X7_number_0 at hf
  refine lv_aload_n hx hb dX7_number_0 rfl (lv_at hl 0 rfl) ?_
  replace hf := evn_b1 hf
  obtain ⟨v1, e1, hf⟩ := hf
  refine mm_getI F hH mc_7 (k := 0) (by decide) (hts _ q735) (fun _ h => h) e1 dX7_number_1 ?_
  refine lv_istore_n (lv' := [(1, .int v1), (0, .ref h0)]) hx hb dX7_number_4 rfl hl (by decide) rfl (fun ls hl => ?_)
  refine lv_iconst (v := 0) hx hb dX7_number_5 (by decide) ?_
  refine lv_istore_n (lv' := [(2, .int (0 : Int32)), (1, .int v1), (0, .ref h0)]) hx hb dX7_number_6 rfl hl (by decide) rfl (fun ls hl => ?_)
  refine lv_aload_n hx hb dX7_number_7 rfl (lv_at hl 2 rfl) ?_
  refine lv_aload_n hx hb dX7_number_8 rfl (lv_at hl 2 rfl) ?_
  replace hf := evn_b1 hf
  obtain ⟨u, e2, hf⟩ := hf
  obtain ⟨fs, ek⟩ := ck_i e2
  replace hf := evn_b1 hf
  obtain ⟨v2, e3, hf⟩ := hf
  refine mm_ci (va_runV (As := []) (rest := [.ref h0]) ⟨hx, hb, hml, hown, hts⟩ (m_X7_isDigit l G h0 σ v2 e3) (cwV 0 hts (lw_V q769 q771 qs23 q80 q772) rfl rfl rfl (by decide +kernel) ⟨Nat.le_of_ble_eq_true rfl, Nat.le_of_ble_eq_true rfl⟩) (mm_preV F.2.2.2.2.2 hH (ci := 7) rfl ek) rfl rfl hl.1 rfl (lv_room (Nat.le_of_ble_eq_true rfl)) dX7_number_9 ⟨Nat.le_of_ble_eq_true rfl, Nat.le_of_ble_eq_true rfl⟩) hH (fun H locs hH => ?_)
  replace hf := evn_b1 hf
  obtain ⟨u, e4, hf⟩ := hf
  obtain ⟨fs, ek⟩ := ck_i e4
  replace hf := evn_b2 hf
  obtain ⟨r4, σ3, e5, hf⟩ := hf
  refine mx_cv (vy_runV (As := [.int v2]) (rest := []) ⟨hx, hb, hml, hown, hts⟩ (m_X7_expect l G h0 v2 σ σ3 r4 e5) (cwV 1 hts (lw_V q774 q776 qs24 q80 q777) rfl rfl rfl (by decide +kernel) ⟨Nat.le_of_ble_eq_true rfl, Nat.le_of_ble_eq_true rfl⟩) (mm_preV F.2.2.2.2.2 hH (ci := 7) rfl ek) rfl rfl hl.1 rfl (lv_room (Nat.le_of_ble_eq_true rfl)) dX7_number_12 ⟨Nat.le_of_ble_eq_true rfl, Nat.le_of_ble_eq_true rfl⟩) hH (fun qv5 H locs E ce hq hH c1 c2 c3 => ?_) (fun u6 H locs hq hH => ?_)
  · subst hq
    rw [xs_r] at hf
    rw [evn_r] at hf
    obtain ⟨h1, h2⟩ := Prod.mk.inj (Option.some.inj hf)
    subst h1
    subst h2
    exact mx_out hnt hlocks hH c1 c2 c3 rfl (Nat.le_of_ble_eq_true rfl) (Nat.le_of_ble_eq_true rfl)
  · subst hq
    rw [xs_l] at hf
    rw [evn_l] at hf
    exact IH15 v1 (0 : Int32) σ3 _ _ _ hH (lv_sub hl [2, 1, 0] rfl) hf
set_option maxHeartbeats 4000000 in
theorem l_X7_number {p : Program} {l : Launch} {e : Env} {s : State} {m : MethodId} {av : Array Value} {below : List Frame} {meth : Method} {c : Code} {G : mm_G} {σf : mm_M} {rr : Int32 ⊕ Nat} {h0 : Nat} (F : mm_F p s m av c RX7 cX7_number 3 G) (hr : meth.sig.returnType = (Option.some .int)) (hlocks : meth.locks = false) (hname : meth.name = yX7_number.name) (hnt : ∀ x ∈ c.exceptionTable.toList, False) : ∀ n : Nat, (∀ (x1 : Int32) (x2 : Int32) (σ : mm_M) (H : Heap) (locs : List Loc) (ls : Array Slot), mm_H G s σ H locs → lv_has ls 3 [(0, .ref h0), (1, .int x1), (2, .int x2)] → itn (s_X7_number h0) n (x1, x2, σ) = some (rr, σf) → W p l e rm_X7_number s m av below meth c H locs 1 7 (vy_MQ below (mx_Qi G rr σf) (mx_X G rr σf) av s 2 14 (mm_A G)) (F0 m 15 ls [])) := by
  intro n
  induction n with
  | zero =>
    exact fun x1 x2 σ H locs ls hH hl hf => by cases hf
  | succ n ih =>
    have IH15 := ih
    intro x1 x2 σ H locs ls hH hl hf
    rw [itn_s] at hf
    exact w_X7_number_15 F hr hlocks hname hnt IH15 x1 x2 σ hf hH hl
set_option maxHeartbeats 4000000 in
theorem m_X7_number (l : Launch) (G : mm_G) (h0 : Nat) (σ : mm_M) (σf : mm_M) (rr : Int32 ⊕ Nat) (hf : f_X7_number h0 σ = some (rr, σf)) : vy_Met l yX7_number (ws_ yX7_number cX7_number 3 ((Option.some .int))) rm_X7_number (mm_Pc G [.ref h0] σ) (mx_Qi G rr σf) (mx_X G rr σf) 2 14 (mm_A G) := by
  refine mx_met (by decide) (by  exact Nat.le_of_ble_eq_true rfl) (fun p e s m below meth c ls F hH hr hlocks hname hnt hl => ?_)
  have hl : lv_has ls 3 [(0, .ref h0)] := by  exact hl
  have F : mm_F p s m _ c RX7 cX7_number 3 G := F
  unfold f_X7_number at hf
  obtain ⟨n, hf⟩ := lgo_i hf
  have IH := l_X7_number (l := l) (e := e) (below := below) (rr := rr) (σf := σf) (h0 := h0) F hr hlocks hname hnt n
  exact w_X7_number_0 F hr hlocks hname hnt IH σ hf hH (lv_sub hl [0] rfl)
/-! IslandHeap$ScriptReader.place()I -/
noncomputable def f_X7_place (h0 : Nat) (σ : mm_M) : Option ((Int32 ⊕ Nat) × mm_M) :=
  (ck σ h0 7).bind fun _ =>
  b2 (f_X7_takes h0 (45 : Int32) σ) fun v1 σ2 =>
  if v1 = 0 then (
    (ck σ2 h0 7).bind fun _ =>
    b2 (f_X7_number h0 σ2) fun r6 σ5 =>
    xs r6 (fun qv7 =>
      some (.inr qv7, σ5)) (fun v4 =>
      some (.inl v4, σ5)))
  else (
    some (.inl (-1 : Int32), σ2))
/-! IslandHeap$ScriptReader.place()I -/
abbrev rm_X7_place : Room := { frames := 6, cells := 2, slots := 14, locals := 142 }
set_option maxHeartbeats 4000000 in
theorem m_X7_place (l : Launch) (G : mm_G) (h0 : Nat) (σ : mm_M) (σf : mm_M) (rr : Int32 ⊕ Nat) (hf : f_X7_place h0 σ = some (rr, σf)) : vy_Met l yX7_place (ws_ yX7_place cX7_place 1 ((Option.some .int))) rm_X7_place (mm_Pc G [.ref h0] σ) (mx_Qi G rr σf) (mx_X G rr σf) 2 14 (mm_A G) := by
  refine mx_met (by decide) (by  exact Nat.le_of_ble_eq_true rfl) (fun p e s m below meth c ls F hH hr hlocks hname hnt hl => ?_)
  have hl : lv_has ls 1 [(0, .ref h0)] := by  exact hl
  have F : mm_F p s m _ c RX7 cX7_place 1 G := F
  have hx := F.1
  have hb := F.2.1
  have hml := F.2.2.1
  have hown := F.2.2.2.1
  have hts := F.2.2.2.2.1
  unfold f_X7_place at hf
  refine lv_aload_n hx hb dX7_place_0 rfl (lv_at hl 0 rfl) ?_
  refine lv_bipush (v := 45) hx hb dX7_place_1 (by decide) ?_
  replace hf := b1_i hf
  obtain ⟨u, e1, hf⟩ := hf
  obtain ⟨fs, ek⟩ := ck_i e1
  replace hf := b2_i hf
  obtain ⟨v1, σ2, e2, hf⟩ := hf
  refine mm_ci (va_runV (As := [.int (45 : Int32)]) (rest := []) ⟨hx, hb, hml, hown, hts⟩ (m_X7_takes l G h0 (45 : Int32) σ σ2 v1 e2) (cwV 1 hts (lw_V q761 q763 qs21 q80 q764) rfl rfl rfl (by decide +kernel) ⟨Nat.le_of_ble_eq_true rfl, Nat.le_of_ble_eq_true rfl⟩) (mm_preV F.2.2.2.2.2 hH (ci := 7) rfl ek) rfl rfl hl.1 rfl (lv_room (Nat.le_of_ble_eq_true rfl)) dX7_place_3 ⟨Nat.le_of_ble_eq_true rfl, Nat.le_of_ble_eq_true rfl⟩) hH (fun H locs hH => ?_)
  refine lv_if_eq (tgt := 13) hx hb dX7_place_6 (by decide) (fun c3 => ?_) (fun c3 => ?_)
  · rw [if_pos c3] at hf
    refine lv_aload_n hx hb dX7_place_13 rfl (lv_at hl 0 rfl) ?_
    replace hf := b1_i hf
    obtain ⟨u, e3, hf⟩ := hf
    obtain ⟨fs, ek⟩ := ck_i e3
    replace hf := b2_i hf
    obtain ⟨r6, σ5, e4, hf⟩ := hf
    refine mx_ci (vy_runV (As := []) (rest := []) ⟨hx, hb, hml, hown, hts⟩ (m_X7_number l G h0 σ2 σ5 r6 e4) (cwV 0 hts (lw_V q860 q862 qs27 q80 q863) rfl rfl rfl (by decide +kernel) ⟨Nat.le_of_ble_eq_true rfl, Nat.le_of_ble_eq_true rfl⟩) (mm_preV F.2.2.2.2.2 hH (ci := 7) rfl ek) rfl rfl hl.1 rfl (lv_room (Nat.le_of_ble_eq_true rfl)) dX7_place_14 ⟨Nat.le_of_ble_eq_true rfl, Nat.le_of_ble_eq_true rfl⟩) hH (fun qv7 H locs E ce hq hH c1 c2 c3 => ?_) (fun v4 H locs hq hH => ?_)
    · subst hq
      rw [xs_r] at hf
      obtain ⟨h1, h2⟩ := Prod.mk.inj (Option.some.inj hf)
      subst h1
      subst h2
      exact mx_out hnt hlocks hH c1 c2 c3 rfl (Nat.le_of_ble_eq_true rfl) (Nat.le_of_ble_eq_true rfl)
    · subst hq
      rw [xs_l] at hf
      obtain ⟨h1, h2⟩ := Prod.mk.inj (Option.some.inj hf)
      subst h1
      subst h2
      exact mx_reti F hH hr hlocks rfl rfl dX7_place_17
  · rw [if_neg c3] at hf
    refine lv_iconst (v := (-1)) hx hb dX7_place_9 (by decide) ?_
    refine lv_goto (tgt := 17) hx hb dX7_place_10 (by decide) ?_
    obtain ⟨h1, h2⟩ := Prod.mk.inj (Option.some.inj hf)
    subst h1
    subst h2
    refine W.widen (k := 2) (n := 14) (Nat.le_of_ble_eq_true rfl) (Nat.le_of_ble_eq_true rfl) ?_
    exact mx_reti F hH hr hlocks rfl rfl dX7_place_17
/-! IslandHeap$ScriptReader.command()LIslandHeap$Command; -/
noncomputable def f_X7_command (h0 : Nat) (σ : mm_M) : Option ((Nat ⊕ Nat) × mm_M) :=
  (ck σ h0 7).bind fun _ =>
  b2 (f_X7_takes h0 (110 : Int32) σ) fun v1 σ2 =>
  if v1 = 0 then (
    (ck σ2 h0 7).bind fun _ =>
    b2 (f_X7_takes h0 (114 : Int32) σ2) fun v4 σ5 =>
    if v4 = 0 then (
      (ck σ5 h0 7).bind fun _ =>
      b2 (f_X7_takes h0 (119 : Int32) σ5) fun v7 σ8 =>
      if v7 = 0 then (
        (ck σ8 h0 7).bind fun _ =>
        b2 (f_X7_takes h0 (102 : Int32) σ8) fun v10 σ11 =>
        if v10 = 0 then (
          (ck σ11 h0 7).bind fun _ =>
          b2 (f_X7_takes h0 (112 : Int32) σ11) fun v13 σ14 =>
          if v13 = 0 then (
            (ck σ14 h0 7).bind fun _ =>
            b2 (f_X7_takes h0 (117 : Int32) σ14) fun v16 σ17 =>
            if v16 = 0 then (
              (ck σ17 h0 7).bind fun _ =>
              b2 (f_X7_takes h0 (99 : Int32) σ17) fun v19 σ20 =>
              (ck σ20 h0 7).bind fun _ =>
              b2 (f_X7_expect h0 v19 σ20) fun r22 σ21 =>
              xs r22 (fun qv23 =>
                some (.inr qv23, σ21)) (fun u24 =>
                b2 (nO σ21 14 df_14) fun qv26 σ25 =>
                (f_X14_init qv26 σ25).bind fun σ27 =>
                some (.inl qv26, σ27)))
            else (
              b2 (nO σ17 13 df_13) fun qv29 σ28 =>
              (ck σ28 h0 7).bind fun _ =>
              b2 (f_X7_number h0 σ28) fun r32 σ31 =>
              xs r32 (fun qv33 =>
                some (.inr qv33, σ31)) (fun v30 =>
                (f_X13_init qv29 v30 (0 : Int32) σ31).bind fun σ34 =>
                some (.inl qv29, σ34))))
          else (
            b2 (nO σ14 13 df_13) fun qv36 σ35 =>
            (ck σ35 h0 7).bind fun _ =>
            b2 (f_X7_number h0 σ35) fun r39 σ38 =>
            xs r39 (fun qv40 =>
              some (.inr qv40, σ38)) (fun v37 =>
              (f_X13_init qv36 v37 (1 : Int32) σ38).bind fun σ41 =>
              some (.inl qv36, σ41))))
        else (
          (ck σ11 h0 7).bind fun _ =>
          b2 (f_X7_number h0 σ11) fun r44 σ43 =>
          xs r44 (fun qv45 =>
            some (.inr qv45, σ43)) (fun v42 =>
            (ck σ43 h0 7).bind fun _ =>
            b2 (f_X7_digit h0 σ43) fun r48 σ47 =>
            xs r48 (fun qv49 =>
              some (.inr qv49, σ47)) (fun v46 =>
              b2 (nO σ47 12 df_12) fun qv51 σ50 =>
              (ck σ50 h0 7).bind fun _ =>
              b2 (f_X7_place h0 σ50) fun r54 σ53 =>
              xs r54 (fun qv55 =>
                some (.inr qv55, σ53)) (fun v52 =>
                (f_X12_init qv51 v42 v46 v52 σ53).bind fun σ56 =>
                some (.inl qv51, σ56))))))
      else (
        (ck σ8 h0 7).bind fun _ =>
        b2 (f_X7_digit h0 σ8) fun r59 σ58 =>
        xs r59 (fun qv60 =>
          some (.inr qv60, σ58)) (fun v57 =>
          b2 (nO σ58 11 df_11) fun qv62 σ61 =>
          (ck σ61 h0 7).bind fun _ =>
          b2 (f_X7_place h0 σ61) fun r65 σ64 =>
          xs r65 (fun qv66 =>
            some (.inr qv66, σ64)) (fun v63 =>
            (f_X11_init qv62 v57 v63 σ64).bind fun σ67 =>
            some (.inl qv62, σ67)))))
    else (
      (ck σ5 h0 7).bind fun _ =>
      b2 (f_X7_digit h0 σ5) fun r70 σ69 =>
      xs r70 (fun qv71 =>
        some (.inr qv71, σ69)) (fun v68 =>
        b2 (nO σ69 10 df_10) fun qv73 σ72 =>
        (ck σ72 h0 7).bind fun _ =>
        b2 (f_X7_place h0 σ72) fun r76 σ75 =>
        xs r76 (fun qv77 =>
          some (.inr qv77, σ75)) (fun v74 =>
          (f_X10_init qv73 v68 v74 σ75).bind fun σ78 =>
          some (.inl qv73, σ78)))))
  else (
    (ck σ2 h0 7).bind fun _ =>
    b2 (f_X7_digit h0 σ2) fun r81 σ80 =>
    xs r81 (fun qv82 =>
      some (.inr qv82, σ80)) (fun v79 =>
      b2 (nO σ80 9 df_9) fun qv84 σ83 =>
      (ck σ83 h0 7).bind fun _ =>
      b2 (f_X7_digit h0 σ83) fun r87 σ86 =>
      xs r87 (fun qv88 =>
        some (.inr qv88, σ86)) (fun v85 =>
        (f_X9_init qv84 v79 v85 σ86).bind fun σ89 =>
        some (.inl qv84, σ89))))
/-! IslandHeap$ScriptReader.command()LIslandHeap$Command; -/
abbrev rm_X7_command : Room := { frames := 7, cells := 6, slots := 38, locals := 162 }
set_option maxHeartbeats 4000000 in
theorem m_X7_command (l : Launch) (G : mm_G) (h0 : Nat) (σ : mm_M) (σf : mm_M) (rr : Nat ⊕ Nat) (hf : f_X7_command h0 σ = some (rr, σf)) : vy_Met l yX7_command (ws_ yX7_command cX7_command 3 ((Option.some (.object "IslandHeap$Command")))) rm_X7_command (mm_Pc G [.ref h0] σ) (mx_Qq G rr σf) (mx_X G rr σf) 6 38 (mm_A G) := by
  refine mx_met (by decide) (by  exact Nat.le_of_ble_eq_true rfl) (fun p e s m below meth c ls F hH hr hlocks hname hnt hl => ?_)
  have hl : lv_has ls 3 [(0, .ref h0)] := by  exact hl
  have F : mm_F p s m _ c RX7 cX7_command 3 G := F
  have hx := F.1
  have hb := F.2.1
  have hml := F.2.2.1
  have hown := F.2.2.2.1
  have hts := F.2.2.2.2.1
  unfold f_X7_command at hf
  refine lv_aload_n hx hb dX7_command_0 rfl (lv_at hl 0 rfl) ?_
  refine lv_bipush (v := 110) hx hb dX7_command_1 (by decide) ?_
  replace hf := b1_i hf
  obtain ⟨u, e1, hf⟩ := hf
  obtain ⟨fs, ek⟩ := ck_i e1
  replace hf := b2_i hf
  obtain ⟨v1, σ2, e2, hf⟩ := hf
  refine mm_ci (va_runV (As := [.int (110 : Int32)]) (rest := []) ⟨hx, hb, hml, hown, hts⟩ (m_X7_takes l G h0 (110 : Int32) σ σ2 v1 e2) (cwV 1 hts (lw_V q761 q763 qs21 q80 q764) rfl rfl rfl (by decide +kernel) ⟨Nat.le_of_ble_eq_true rfl, Nat.le_of_ble_eq_true rfl⟩) (mm_preV F.2.2.2.2.2 hH (ci := 7) rfl ek) rfl rfl hl.1 rfl (lv_room (Nat.le_of_ble_eq_true rfl)) dX7_command_3 ⟨Nat.le_of_ble_eq_true rfl, Nat.le_of_ble_eq_true rfl⟩) hH (fun H locs hH => ?_)
  refine lv_if_eq (tgt := 27) hx hb dX7_command_6 (by decide) (fun c3 => ?_) (fun c3 => ?_)
  · rw [if_pos c3] at hf
    refine lv_aload_n hx hb dX7_command_27 rfl (lv_at hl 0 rfl) ?_
    refine lv_bipush (v := 114) hx hb dX7_command_28 (by decide) ?_
    replace hf := b1_i hf
    obtain ⟨u, e3, hf⟩ := hf
    obtain ⟨fs, ek⟩ := ck_i e3
    replace hf := b2_i hf
    obtain ⟨v4, σ5, e4, hf⟩ := hf
    refine mm_ci (va_runV (As := [.int (114 : Int32)]) (rest := []) ⟨hx, hb, hml, hown, hts⟩ (m_X7_takes l G h0 (114 : Int32) σ2 σ5 v4 e4) (cwV 1 hts (lw_V q761 q763 qs21 q80 q764) rfl rfl rfl (by decide +kernel) ⟨Nat.le_of_ble_eq_true rfl, Nat.le_of_ble_eq_true rfl⟩) (mm_preV F.2.2.2.2.2 hH (ci := 7) rfl ek) rfl rfl hl.1 rfl (lv_room (Nat.le_of_ble_eq_true rfl)) dX7_command_30 ⟨Nat.le_of_ble_eq_true rfl, Nat.le_of_ble_eq_true rfl⟩) hH (fun H locs hH => ?_)
    refine lv_if_eq (tgt := 54) hx hb dX7_command_33 (by decide) (fun c6 => ?_) (fun c6 => ?_)
    · rw [if_pos c6] at hf
      refine lv_aload_n hx hb dX7_command_54 rfl (lv_at hl 0 rfl) ?_
      refine lv_bipush (v := 119) hx hb dX7_command_55 (by decide) ?_
      replace hf := b1_i hf
      obtain ⟨u, e5, hf⟩ := hf
      obtain ⟨fs, ek⟩ := ck_i e5
      replace hf := b2_i hf
      obtain ⟨v7, σ8, e6, hf⟩ := hf
      refine mm_ci (va_runV (As := [.int (119 : Int32)]) (rest := []) ⟨hx, hb, hml, hown, hts⟩ (m_X7_takes l G h0 (119 : Int32) σ5 σ8 v7 e6) (cwV 1 hts (lw_V q761 q763 qs21 q80 q764) rfl rfl rfl (by decide +kernel) ⟨Nat.le_of_ble_eq_true rfl, Nat.le_of_ble_eq_true rfl⟩) (mm_preV F.2.2.2.2.2 hH (ci := 7) rfl ek) rfl rfl hl.1 rfl (lv_room (Nat.le_of_ble_eq_true rfl)) dX7_command_57 ⟨Nat.le_of_ble_eq_true rfl, Nat.le_of_ble_eq_true rfl⟩) hH (fun H locs hH => ?_)
      refine lv_if_eq (tgt := 81) hx hb dX7_command_60 (by decide) (fun c9 => ?_) (fun c9 => ?_)
      · rw [if_pos c9] at hf
        refine lv_aload_n hx hb dX7_command_81 rfl (lv_at hl 0 rfl) ?_
        refine lv_bipush (v := 102) hx hb dX7_command_82 (by decide) ?_
        replace hf := b1_i hf
        obtain ⟨u, e7, hf⟩ := hf
        obtain ⟨fs, ek⟩ := ck_i e7
        replace hf := b2_i hf
        obtain ⟨v10, σ11, e8, hf⟩ := hf
        refine mm_ci (va_runV (As := [.int (102 : Int32)]) (rest := []) ⟨hx, hb, hml, hown, hts⟩ (m_X7_takes l G h0 (102 : Int32) σ8 σ11 v10 e8) (cwV 1 hts (lw_V q761 q763 qs21 q80 q764) rfl rfl rfl (by decide +kernel) ⟨Nat.le_of_ble_eq_true rfl, Nat.le_of_ble_eq_true rfl⟩) (mm_preV F.2.2.2.2.2 hH (ci := 7) rfl ek) rfl rfl hl.1 rfl (lv_room (Nat.le_of_ble_eq_true rfl)) dX7_command_84 ⟨Nat.le_of_ble_eq_true rfl, Nat.le_of_ble_eq_true rfl⟩) hH (fun H locs hH => ?_)
        refine lv_if_eq (tgt := 114) hx hb dX7_command_87 (by decide) (fun c12 => ?_) (fun c12 => ?_)
        · rw [if_pos c12] at hf
          refine lv_aload_n hx hb dX7_command_114 rfl (lv_at hl 0 rfl) ?_
          refine lv_bipush (v := 112) hx hb dX7_command_115 (by decide) ?_
          replace hf := b1_i hf
          obtain ⟨u, e9, hf⟩ := hf
          obtain ⟨fs, ek⟩ := ck_i e9
          replace hf := b2_i hf
          obtain ⟨v13, σ14, e10, hf⟩ := hf
          refine mm_ci (va_runV (As := [.int (112 : Int32)]) (rest := []) ⟨hx, hb, hml, hown, hts⟩ (m_X7_takes l G h0 (112 : Int32) σ11 σ14 v13 e10) (cwV 1 hts (lw_V q761 q763 qs21 q80 q764) rfl rfl rfl (by decide +kernel) ⟨Nat.le_of_ble_eq_true rfl, Nat.le_of_ble_eq_true rfl⟩) (mm_preV F.2.2.2.2.2 hH (ci := 7) rfl ek) rfl rfl hl.1 rfl (lv_room (Nat.le_of_ble_eq_true rfl)) dX7_command_117 ⟨Nat.le_of_ble_eq_true rfl, Nat.le_of_ble_eq_true rfl⟩) hH (fun H locs hH => ?_)
          refine lv_if_eq (tgt := 136) hx hb dX7_command_120 (by decide) (fun c15 => ?_) (fun c15 => ?_)
          · rw [if_pos c15] at hf
            refine lv_aload_n hx hb dX7_command_136 rfl (lv_at hl 0 rfl) ?_
            refine lv_bipush (v := 117) hx hb dX7_command_137 (by decide) ?_
            replace hf := b1_i hf
            obtain ⟨u, e11, hf⟩ := hf
            obtain ⟨fs, ek⟩ := ck_i e11
            replace hf := b2_i hf
            obtain ⟨v16, σ17, e12, hf⟩ := hf
            refine mm_ci (va_runV (As := [.int (117 : Int32)]) (rest := []) ⟨hx, hb, hml, hown, hts⟩ (m_X7_takes l G h0 (117 : Int32) σ14 σ17 v16 e12) (cwV 1 hts (lw_V q761 q763 qs21 q80 q764) rfl rfl rfl (by decide +kernel) ⟨Nat.le_of_ble_eq_true rfl, Nat.le_of_ble_eq_true rfl⟩) (mm_preV F.2.2.2.2.2 hH (ci := 7) rfl ek) rfl rfl hl.1 rfl (lv_room (Nat.le_of_ble_eq_true rfl)) dX7_command_139 ⟨Nat.le_of_ble_eq_true rfl, Nat.le_of_ble_eq_true rfl⟩) hH (fun H locs hH => ?_)
            refine lv_if_eq (tgt := 158) hx hb dX7_command_142 (by decide) (fun c18 => ?_) (fun c18 => ?_)
            · rw [if_pos c18] at hf
              refine lv_aload_n hx hb dX7_command_158 rfl (lv_at hl 0 rfl) ?_
              refine lv_aload_n hx hb dX7_command_159 rfl (lv_at hl 0 rfl) ?_
              refine lv_bipush (v := 99) hx hb dX7_command_160 (by decide) ?_
              replace hf := b1_i hf
              obtain ⟨u, e13, hf⟩ := hf
              obtain ⟨fs, ek⟩ := ck_i e13
              replace hf := b2_i hf
              obtain ⟨v19, σ20, e14, hf⟩ := hf
              refine mm_ci (va_runV (As := [.int (99 : Int32)]) (rest := [.ref h0]) ⟨hx, hb, hml, hown, hts⟩ (m_X7_takes l G h0 (99 : Int32) σ17 σ20 v19 e14) (cwV 1 hts (lw_V q761 q763 qs21 q80 q764) rfl rfl rfl (by decide +kernel) ⟨Nat.le_of_ble_eq_true rfl, Nat.le_of_ble_eq_true rfl⟩) (mm_preV F.2.2.2.2.2 hH (ci := 7) rfl ek) rfl rfl hl.1 rfl (lv_room (Nat.le_of_ble_eq_true rfl)) dX7_command_162 ⟨Nat.le_of_ble_eq_true rfl, Nat.le_of_ble_eq_true rfl⟩) hH (fun H locs hH => ?_)
              replace hf := b1_i hf
              obtain ⟨u, e15, hf⟩ := hf
              obtain ⟨fs, ek⟩ := ck_i e15
              replace hf := b2_i hf
              obtain ⟨r22, σ21, e16, hf⟩ := hf
              refine mx_cv (vy_runV (As := [.int v19]) (rest := []) ⟨hx, hb, hml, hown, hts⟩ (m_X7_expect l G h0 v19 σ20 σ21 r22 e16) (cwV 1 hts (lw_V q774 q776 qs24 q80 q777) rfl rfl rfl (by decide +kernel) ⟨Nat.le_of_ble_eq_true rfl, Nat.le_of_ble_eq_true rfl⟩) (mm_preV F.2.2.2.2.2 hH (ci := 7) rfl ek) rfl rfl hl.1 rfl (lv_room (Nat.le_of_ble_eq_true rfl)) dX7_command_165 ⟨Nat.le_of_ble_eq_true rfl, Nat.le_of_ble_eq_true rfl⟩) hH (fun qv23 H locs E ce hq hH c1 c2 c3 => ?_) (fun u24 H locs hq hH => ?_)
              · subst hq
                rw [xs_r] at hf
                obtain ⟨h1, h2⟩ := Prod.mk.inj (Option.some.inj hf)
                subst h1
                subst h2
                exact mx_out hnt hlocks hH c1 c2 c3 rfl (Nat.le_of_ble_eq_true rfl) (Nat.le_of_ble_eq_true rfl)
              · subst hq
                rw [xs_l] at hf
                replace hf := b2_i hf
                obtain ⟨qv26, σ25, e17, hf⟩ := hf
                refine mm_new F hH mc_14 (hts _ q917) (hts _ q918) (hts _ q89) (Nat.le_of_ble_eq_true rfl) (Nat.le_of_ble_eq_true rfl) e17 dX7_command_168 (fun H hH => ?_)
                refine lv_dup hx hb dX7_command_171 rfl ?_
                replace hf := b1_i hf
                obtain ⟨σ27, e18, hf⟩ := hf
                refine mm_cv (va_runIN (As := []) (rest := [.ref qv26]) ⟨hx, hb, hml, hown, hts⟩ (m_X14_init l G qv26 σ25 σ27 e18) ⟨(va_cnB 0 hts (lw_meth q921) rfl rfl rfl (F.2.2.2.2.2.2.1 _ q919 rfl) (hts _ q89) (by decide +kernel) ⟨Nat.le_of_ble_eq_true rfl, Nat.le_of_ble_eq_true rfl⟩), rfl, hts _ q920⟩ (mm_preS F.2.2.2.2.2 hH) rfl rfl hl.1 rfl (lv_room (Nat.le_of_ble_eq_true rfl)) dX7_command_172 ⟨Nat.le_of_ble_eq_true rfl, Nat.le_of_ble_eq_true rfl⟩) hH (fun H locs hH => ?_)
                obtain ⟨h1, h2⟩ := Prod.mk.inj (Option.some.inj hf)
                subst h1
                subst h2
                refine W.widen (k := 6) (n := 38) (Nat.le_of_ble_eq_true rfl) (Nat.le_of_ble_eq_true rfl) ?_
                exact mx_retq F hH hr hlocks (Or.inl ⟨_, rfl⟩) rfl dX7_command_175
            · rw [if_neg c18] at hf
              replace hf := b2_i hf
              obtain ⟨qv29, σ28, e19, hf⟩ := hf
              refine mm_new F hH mc_13 (hts _ q904) (hts _ q905) (hts _ q88) (Nat.le_of_ble_eq_true rfl) (Nat.le_of_ble_eq_true rfl) e19 dX7_command_145 (fun H hH => ?_)
              refine lv_dup hx hb dX7_command_148 rfl ?_
              refine lv_aload_n hx hb dX7_command_149 rfl (lv_at hl 0 rfl) ?_
              replace hf := b1_i hf
              obtain ⟨u, e20, hf⟩ := hf
              obtain ⟨fs, ek⟩ := ck_i e20
              replace hf := b2_i hf
              obtain ⟨r32, σ31, e21, hf⟩ := hf
              refine mx_ci (vy_runV (As := []) (rest := [.ref qv29, .ref qv29]) ⟨hx, hb, hml, hown, hts⟩ (m_X7_number l G h0 σ28 σ31 r32 e21) (cwV 0 hts (lw_V q860 q862 qs27 q80 q863) rfl rfl rfl (by decide +kernel) ⟨Nat.le_of_ble_eq_true rfl, Nat.le_of_ble_eq_true rfl⟩) (mm_preV F.2.2.2.2.2 hH (ci := 7) rfl ek) rfl rfl hl.1 rfl (lv_room (Nat.le_of_ble_eq_true rfl)) dX7_command_150 ⟨Nat.le_of_ble_eq_true rfl, Nat.le_of_ble_eq_true rfl⟩) hH (fun qv33 H locs E ce hq hH c1 c2 c3 => ?_) (fun v30 H locs hq hH => ?_)
              · subst hq
                rw [xs_r] at hf
                obtain ⟨h1, h2⟩ := Prod.mk.inj (Option.some.inj hf)
                subst h1
                subst h2
                exact mx_out hnt hlocks hH c1 c2 c3 rfl (Nat.le_of_ble_eq_true rfl) (Nat.le_of_ble_eq_true rfl)
              · subst hq
                rw [xs_l] at hf
                refine lv_iconst (v := 0) hx hb dX7_command_153 (by decide) ?_
                replace hf := b1_i hf
                obtain ⟨σ34, e22, hf⟩ := hf
                refine mm_cv (va_runI (As := [.int v30, .int (0 : Int32)]) (rest := [.ref qv29]) ⟨hx, hb, hml, hown, hts⟩ (m_X13_init l G qv29 v30 (0 : Int32) σ31 σ34 e22) (cwI 2 hts (lw_meth q908) rfl rfl rfl (hts _ q88) (hts _ q906) (hts _ q907) rfl (by decide +kernel) ⟨Nat.le_of_ble_eq_true rfl, Nat.le_of_ble_eq_true rfl⟩) (mm_preS F.2.2.2.2.2 hH) rfl rfl hl.1 rfl (lv_room (Nat.le_of_ble_eq_true rfl)) dX7_command_154 ⟨Nat.le_of_ble_eq_true rfl, Nat.le_of_ble_eq_true rfl⟩) hH (fun H locs hH => ?_)
                obtain ⟨h1, h2⟩ := Prod.mk.inj (Option.some.inj hf)
                subst h1
                subst h2
                refine W.widen (k := 6) (n := 38) (Nat.le_of_ble_eq_true rfl) (Nat.le_of_ble_eq_true rfl) ?_
                exact mx_retq F hH hr hlocks (Or.inl ⟨_, rfl⟩) rfl dX7_command_157
          · rw [if_neg c15] at hf
            replace hf := b2_i hf
            obtain ⟨qv36, σ35, e23, hf⟩ := hf
            refine mm_new F hH mc_13 (hts _ q904) (hts _ q905) (hts _ q88) (Nat.le_of_ble_eq_true rfl) (Nat.le_of_ble_eq_true rfl) e23 dX7_command_123 (fun H hH => ?_)
            refine lv_dup hx hb dX7_command_126 rfl ?_
            refine lv_aload_n hx hb dX7_command_127 rfl (lv_at hl 0 rfl) ?_
            replace hf := b1_i hf
            obtain ⟨u, e24, hf⟩ := hf
            obtain ⟨fs, ek⟩ := ck_i e24
            replace hf := b2_i hf
            obtain ⟨r39, σ38, e25, hf⟩ := hf
            refine mx_ci (vy_runV (As := []) (rest := [.ref qv36, .ref qv36]) ⟨hx, hb, hml, hown, hts⟩ (m_X7_number l G h0 σ35 σ38 r39 e25) (cwV 0 hts (lw_V q860 q862 qs27 q80 q863) rfl rfl rfl (by decide +kernel) ⟨Nat.le_of_ble_eq_true rfl, Nat.le_of_ble_eq_true rfl⟩) (mm_preV F.2.2.2.2.2 hH (ci := 7) rfl ek) rfl rfl hl.1 rfl (lv_room (Nat.le_of_ble_eq_true rfl)) dX7_command_128 ⟨Nat.le_of_ble_eq_true rfl, Nat.le_of_ble_eq_true rfl⟩) hH (fun qv40 H locs E ce hq hH c1 c2 c3 => ?_) (fun v37 H locs hq hH => ?_)
            · subst hq
              rw [xs_r] at hf
              obtain ⟨h1, h2⟩ := Prod.mk.inj (Option.some.inj hf)
              subst h1
              subst h2
              exact mx_out hnt hlocks hH c1 c2 c3 rfl (Nat.le_of_ble_eq_true rfl) (Nat.le_of_ble_eq_true rfl)
            · subst hq
              rw [xs_l] at hf
              refine lv_iconst (v := 1) hx hb dX7_command_131 (by decide) ?_
              replace hf := b1_i hf
              obtain ⟨σ41, e26, hf⟩ := hf
              refine mm_cv (va_runI (As := [.int v37, .int (1 : Int32)]) (rest := [.ref qv36]) ⟨hx, hb, hml, hown, hts⟩ (m_X13_init l G qv36 v37 (1 : Int32) σ38 σ41 e26) (cwI 2 hts (lw_meth q908) rfl rfl rfl (hts _ q88) (hts _ q906) (hts _ q907) rfl (by decide +kernel) ⟨Nat.le_of_ble_eq_true rfl, Nat.le_of_ble_eq_true rfl⟩) (mm_preS F.2.2.2.2.2 hH) rfl rfl hl.1 rfl (lv_room (Nat.le_of_ble_eq_true rfl)) dX7_command_132 ⟨Nat.le_of_ble_eq_true rfl, Nat.le_of_ble_eq_true rfl⟩) hH (fun H locs hH => ?_)
              obtain ⟨h1, h2⟩ := Prod.mk.inj (Option.some.inj hf)
              subst h1
              subst h2
              refine W.widen (k := 6) (n := 38) (Nat.le_of_ble_eq_true rfl) (Nat.le_of_ble_eq_true rfl) ?_
              exact mx_retq F hH hr hlocks (Or.inl ⟨_, rfl⟩) rfl dX7_command_135
        · rw [if_neg c12] at hf
          refine lv_aload_n hx hb dX7_command_90 rfl (lv_at hl 0 rfl) ?_
          replace hf := b1_i hf
          obtain ⟨u, e27, hf⟩ := hf
          obtain ⟨fs, ek⟩ := ck_i e27
          replace hf := b2_i hf
          obtain ⟨r44, σ43, e28, hf⟩ := hf
          refine mx_ci (vy_runV (As := []) (rest := []) ⟨hx, hb, hml, hown, hts⟩ (m_X7_number l G h0 σ11 σ43 r44 e28) (cwV 0 hts (lw_V q860 q862 qs27 q80 q863) rfl rfl rfl (by decide +kernel) ⟨Nat.le_of_ble_eq_true rfl, Nat.le_of_ble_eq_true rfl⟩) (mm_preV F.2.2.2.2.2 hH (ci := 7) rfl ek) rfl rfl hl.1 rfl (lv_room (Nat.le_of_ble_eq_true rfl)) dX7_command_91 ⟨Nat.le_of_ble_eq_true rfl, Nat.le_of_ble_eq_true rfl⟩) hH (fun qv45 H locs E ce hq hH c1 c2 c3 => ?_) (fun v42 H locs hq hH => ?_)
          · subst hq
            rw [xs_r] at hf
            obtain ⟨h1, h2⟩ := Prod.mk.inj (Option.some.inj hf)
            subst h1
            subst h2
            exact mx_out hnt hlocks hH c1 c2 c3 rfl (Nat.le_of_ble_eq_true rfl) (Nat.le_of_ble_eq_true rfl)
          · subst hq
            rw [xs_l] at hf
            refine lv_istore_n (lv' := [(1, .int v42), (0, .ref h0)]) hx hb dX7_command_94 rfl hl (by decide) rfl (fun ls hl => ?_)
            refine lv_aload_n hx hb dX7_command_95 rfl (lv_at hl 1 rfl) ?_
            replace hf := b1_i hf
            obtain ⟨u, e29, hf⟩ := hf
            obtain ⟨fs, ek⟩ := ck_i e29
            replace hf := b2_i hf
            obtain ⟨r48, σ47, e30, hf⟩ := hf
            refine mx_ci (vy_runV (As := []) (rest := []) ⟨hx, hb, hml, hown, hts⟩ (m_X7_digit l G h0 σ43 σ47 r48 e30) (cwV 0 hts (lw_V q765 q767 qs22 q80 q768) rfl rfl rfl (by decide +kernel) ⟨Nat.le_of_ble_eq_true rfl, Nat.le_of_ble_eq_true rfl⟩) (mm_preV F.2.2.2.2.2 hH (ci := 7) rfl ek) rfl rfl hl.1 rfl (lv_room (Nat.le_of_ble_eq_true rfl)) dX7_command_96 ⟨Nat.le_of_ble_eq_true rfl, Nat.le_of_ble_eq_true rfl⟩) hH (fun qv49 H locs E ce hq hH c1 c2 c3 => ?_) (fun v46 H locs hq hH => ?_)
            · subst hq
              rw [xs_r] at hf
              obtain ⟨h1, h2⟩ := Prod.mk.inj (Option.some.inj hf)
              subst h1
              subst h2
              exact mx_out hnt hlocks hH c1 c2 c3 rfl (Nat.le_of_ble_eq_true rfl) (Nat.le_of_ble_eq_true rfl)
            · subst hq
              rw [xs_l] at hf
              refine lv_istore_n (lv' := [(2, .int v46), (1, .int v42), (0, .ref h0)]) hx hb dX7_command_99 rfl hl (by decide) rfl (fun ls hl => ?_)
              replace hf := b2_i hf
              obtain ⟨qv51, σ50, e31, hf⟩ := hf
              refine mm_new F hH mc_12 (hts _ q888) (hts _ q889) (hts _ q87) (Nat.le_of_ble_eq_true rfl) (Nat.le_of_ble_eq_true rfl) e31 dX7_command_100 (fun H hH => ?_)
              refine lv_dup hx hb dX7_command_103 rfl ?_
              refine lv_iload_n hx hb dX7_command_104 rfl (lv_at hl 1 rfl) ?_
              refine lv_iload_n hx hb dX7_command_105 rfl (lv_at hl 0 rfl) ?_
              refine lv_aload_n hx hb dX7_command_106 rfl (lv_at hl 2 rfl) ?_
              replace hf := b1_i hf
              obtain ⟨u, e32, hf⟩ := hf
              obtain ⟨fs, ek⟩ := ck_i e32
              replace hf := b2_i hf
              obtain ⟨r54, σ53, e33, hf⟩ := hf
              refine mx_ci (vy_runV (As := []) (rest := [.int v46, .int v42, .ref qv51, .ref qv51]) ⟨hx, hb, hml, hown, hts⟩ (m_X7_place l G h0 σ50 σ53 r54 e33) (cwV 0 hts (lw_V q856 q858 qs26 q80 q859) rfl rfl rfl (by decide +kernel) ⟨Nat.le_of_ble_eq_true rfl, Nat.le_of_ble_eq_true rfl⟩) (mm_preV F.2.2.2.2.2 hH (ci := 7) rfl ek) rfl rfl hl.1 rfl (lv_room (Nat.le_of_ble_eq_true rfl)) dX7_command_107 ⟨Nat.le_of_ble_eq_true rfl, Nat.le_of_ble_eq_true rfl⟩) hH (fun qv55 H locs E ce hq hH c1 c2 c3 => ?_) (fun v52 H locs hq hH => ?_)
              · subst hq
                rw [xs_r] at hf
                obtain ⟨h1, h2⟩ := Prod.mk.inj (Option.some.inj hf)
                subst h1
                subst h2
                exact mx_out hnt hlocks hH c1 c2 c3 rfl (Nat.le_of_ble_eq_true rfl) (Nat.le_of_ble_eq_true rfl)
              · subst hq
                rw [xs_l] at hf
                replace hf := b1_i hf
                obtain ⟨σ56, e34, hf⟩ := hf
                refine mm_cv (va_runI (As := [.int v42, .int v46, .int v52]) (rest := [.ref qv51]) ⟨hx, hb, hml, hown, hts⟩ (m_X12_init l G qv51 v42 v46 v52 σ53 σ56 e34) (cwI 3 hts (lw_meth q892) rfl rfl rfl (hts _ q87) (hts _ q890) (hts _ q891) rfl (by decide +kernel) ⟨Nat.le_of_ble_eq_true rfl, Nat.le_of_ble_eq_true rfl⟩) (mm_preS F.2.2.2.2.2 hH) rfl rfl hl.1 rfl (lv_room (Nat.le_of_ble_eq_true rfl)) dX7_command_110 ⟨Nat.le_of_ble_eq_true rfl, Nat.le_of_ble_eq_true rfl⟩) hH (fun H locs hH => ?_)
                obtain ⟨h1, h2⟩ := Prod.mk.inj (Option.some.inj hf)
                subst h1
                subst h2
                exact mx_retq F hH hr hlocks (Or.inl ⟨_, rfl⟩) rfl dX7_command_113
      · rw [if_neg c9] at hf
        refine lv_aload_n hx hb dX7_command_63 rfl (lv_at hl 0 rfl) ?_
        replace hf := b1_i hf
        obtain ⟨u, e35, hf⟩ := hf
        obtain ⟨fs, ek⟩ := ck_i e35
        replace hf := b2_i hf
        obtain ⟨r59, σ58, e36, hf⟩ := hf
        refine mx_ci (vy_runV (As := []) (rest := []) ⟨hx, hb, hml, hown, hts⟩ (m_X7_digit l G h0 σ8 σ58 r59 e36) (cwV 0 hts (lw_V q765 q767 qs22 q80 q768) rfl rfl rfl (by decide +kernel) ⟨Nat.le_of_ble_eq_true rfl, Nat.le_of_ble_eq_true rfl⟩) (mm_preV F.2.2.2.2.2 hH (ci := 7) rfl ek) rfl rfl hl.1 rfl (lv_room (Nat.le_of_ble_eq_true rfl)) dX7_command_64 ⟨Nat.le_of_ble_eq_true rfl, Nat.le_of_ble_eq_true rfl⟩) hH (fun qv60 H locs E ce hq hH c1 c2 c3 => ?_) (fun v57 H locs hq hH => ?_)
        · subst hq
          rw [xs_r] at hf
          obtain ⟨h1, h2⟩ := Prod.mk.inj (Option.some.inj hf)
          subst h1
          subst h2
          exact mx_out hnt hlocks hH c1 c2 c3 rfl (Nat.le_of_ble_eq_true rfl) (Nat.le_of_ble_eq_true rfl)
        · subst hq
          rw [xs_l] at hf
          refine lv_istore_n (lv' := [(1, .int v57), (0, .ref h0)]) hx hb dX7_command_67 rfl hl (by decide) rfl (fun ls hl => ?_)
          replace hf := b2_i hf
          obtain ⟨qv62, σ61, e37, hf⟩ := hf
          refine mm_new F hH mc_11 (hts _ q875) (hts _ q876) (hts _ q86) (Nat.le_of_ble_eq_true rfl) (Nat.le_of_ble_eq_true rfl) e37 dX7_command_68 (fun H hH => ?_)
          refine lv_dup hx hb dX7_command_71 rfl ?_
          refine lv_iload_n hx hb dX7_command_72 rfl (lv_at hl 0 rfl) ?_
          refine lv_aload_n hx hb dX7_command_73 rfl (lv_at hl 1 rfl) ?_
          replace hf := b1_i hf
          obtain ⟨u, e38, hf⟩ := hf
          obtain ⟨fs, ek⟩ := ck_i e38
          replace hf := b2_i hf
          obtain ⟨r65, σ64, e39, hf⟩ := hf
          refine mx_ci (vy_runV (As := []) (rest := [.int v57, .ref qv62, .ref qv62]) ⟨hx, hb, hml, hown, hts⟩ (m_X7_place l G h0 σ61 σ64 r65 e39) (cwV 0 hts (lw_V q856 q858 qs26 q80 q859) rfl rfl rfl (by decide +kernel) ⟨Nat.le_of_ble_eq_true rfl, Nat.le_of_ble_eq_true rfl⟩) (mm_preV F.2.2.2.2.2 hH (ci := 7) rfl ek) rfl rfl hl.1 rfl (lv_room (Nat.le_of_ble_eq_true rfl)) dX7_command_74 ⟨Nat.le_of_ble_eq_true rfl, Nat.le_of_ble_eq_true rfl⟩) hH (fun qv66 H locs E ce hq hH c1 c2 c3 => ?_) (fun v63 H locs hq hH => ?_)
          · subst hq
            rw [xs_r] at hf
            obtain ⟨h1, h2⟩ := Prod.mk.inj (Option.some.inj hf)
            subst h1
            subst h2
            exact mx_out hnt hlocks hH c1 c2 c3 rfl (Nat.le_of_ble_eq_true rfl) (Nat.le_of_ble_eq_true rfl)
          · subst hq
            rw [xs_l] at hf
            replace hf := b1_i hf
            obtain ⟨σ67, e40, hf⟩ := hf
            refine mm_cv (va_runI (As := [.int v57, .int v63]) (rest := [.ref qv62]) ⟨hx, hb, hml, hown, hts⟩ (m_X11_init l G qv62 v57 v63 σ64 σ67 e40) (cwI 2 hts (lw_meth q879) rfl rfl rfl (hts _ q86) (hts _ q877) (hts _ q878) rfl (by decide +kernel) ⟨Nat.le_of_ble_eq_true rfl, Nat.le_of_ble_eq_true rfl⟩) (mm_preS F.2.2.2.2.2 hH) rfl rfl hl.1 rfl (lv_room (Nat.le_of_ble_eq_true rfl)) dX7_command_77 ⟨Nat.le_of_ble_eq_true rfl, Nat.le_of_ble_eq_true rfl⟩) hH (fun H locs hH => ?_)
            obtain ⟨h1, h2⟩ := Prod.mk.inj (Option.some.inj hf)
            subst h1
            subst h2
            refine W.widen (k := 6) (n := 38) (Nat.le_of_ble_eq_true rfl) (Nat.le_of_ble_eq_true rfl) ?_
            exact mx_retq F hH hr hlocks (Or.inl ⟨_, rfl⟩) rfl dX7_command_80
    · rw [if_neg c6] at hf
      refine lv_aload_n hx hb dX7_command_36 rfl (lv_at hl 0 rfl) ?_
      replace hf := b1_i hf
      obtain ⟨u, e41, hf⟩ := hf
      obtain ⟨fs, ek⟩ := ck_i e41
      replace hf := b2_i hf
      obtain ⟨r70, σ69, e42, hf⟩ := hf
      refine mx_ci (vy_runV (As := []) (rest := []) ⟨hx, hb, hml, hown, hts⟩ (m_X7_digit l G h0 σ5 σ69 r70 e42) (cwV 0 hts (lw_V q765 q767 qs22 q80 q768) rfl rfl rfl (by decide +kernel) ⟨Nat.le_of_ble_eq_true rfl, Nat.le_of_ble_eq_true rfl⟩) (mm_preV F.2.2.2.2.2 hH (ci := 7) rfl ek) rfl rfl hl.1 rfl (lv_room (Nat.le_of_ble_eq_true rfl)) dX7_command_37 ⟨Nat.le_of_ble_eq_true rfl, Nat.le_of_ble_eq_true rfl⟩) hH (fun qv71 H locs E ce hq hH c1 c2 c3 => ?_) (fun v68 H locs hq hH => ?_)
      · subst hq
        rw [xs_r] at hf
        obtain ⟨h1, h2⟩ := Prod.mk.inj (Option.some.inj hf)
        subst h1
        subst h2
        exact mx_out hnt hlocks hH c1 c2 c3 rfl (Nat.le_of_ble_eq_true rfl) (Nat.le_of_ble_eq_true rfl)
      · subst hq
        rw [xs_l] at hf
        refine lv_istore_n (lv' := [(1, .int v68), (0, .ref h0)]) hx hb dX7_command_40 rfl hl (by decide) rfl (fun ls hl => ?_)
        replace hf := b2_i hf
        obtain ⟨qv73, σ72, e43, hf⟩ := hf
        refine mm_new F hH mc_10 (hts _ q854) (hts _ q855) (hts _ q85) (Nat.le_of_ble_eq_true rfl) (Nat.le_of_ble_eq_true rfl) e43 dX7_command_41 (fun H hH => ?_)
        refine lv_dup hx hb dX7_command_44 rfl ?_
        refine lv_iload_n hx hb dX7_command_45 rfl (lv_at hl 0 rfl) ?_
        refine lv_aload_n hx hb dX7_command_46 rfl (lv_at hl 1 rfl) ?_
        replace hf := b1_i hf
        obtain ⟨u, e44, hf⟩ := hf
        obtain ⟨fs, ek⟩ := ck_i e44
        replace hf := b2_i hf
        obtain ⟨r76, σ75, e45, hf⟩ := hf
        refine mx_ci (vy_runV (As := []) (rest := [.int v68, .ref qv73, .ref qv73]) ⟨hx, hb, hml, hown, hts⟩ (m_X7_place l G h0 σ72 σ75 r76 e45) (cwV 0 hts (lw_V q856 q858 qs26 q80 q859) rfl rfl rfl (by decide +kernel) ⟨Nat.le_of_ble_eq_true rfl, Nat.le_of_ble_eq_true rfl⟩) (mm_preV F.2.2.2.2.2 hH (ci := 7) rfl ek) rfl rfl hl.1 rfl (lv_room (Nat.le_of_ble_eq_true rfl)) dX7_command_47 ⟨Nat.le_of_ble_eq_true rfl, Nat.le_of_ble_eq_true rfl⟩) hH (fun qv77 H locs E ce hq hH c1 c2 c3 => ?_) (fun v74 H locs hq hH => ?_)
        · subst hq
          rw [xs_r] at hf
          obtain ⟨h1, h2⟩ := Prod.mk.inj (Option.some.inj hf)
          subst h1
          subst h2
          exact mx_out hnt hlocks hH c1 c2 c3 rfl (Nat.le_of_ble_eq_true rfl) (Nat.le_of_ble_eq_true rfl)
        · subst hq
          rw [xs_l] at hf
          replace hf := b1_i hf
          obtain ⟨σ78, e46, hf⟩ := hf
          refine mm_cv (va_runI (As := [.int v68, .int v74]) (rest := [.ref qv73]) ⟨hx, hb, hml, hown, hts⟩ (m_X10_init l G qv73 v68 v74 σ75 σ78 e46) (cwI 2 hts (lw_meth q866) rfl rfl rfl (hts _ q85) (hts _ q864) (hts _ q865) rfl (by decide +kernel) ⟨Nat.le_of_ble_eq_true rfl, Nat.le_of_ble_eq_true rfl⟩) (mm_preS F.2.2.2.2.2 hH) rfl rfl hl.1 rfl (lv_room (Nat.le_of_ble_eq_true rfl)) dX7_command_50 ⟨Nat.le_of_ble_eq_true rfl, Nat.le_of_ble_eq_true rfl⟩) hH (fun H locs hH => ?_)
          obtain ⟨h1, h2⟩ := Prod.mk.inj (Option.some.inj hf)
          subst h1
          subst h2
          refine W.widen (k := 6) (n := 38) (Nat.le_of_ble_eq_true rfl) (Nat.le_of_ble_eq_true rfl) ?_
          exact mx_retq F hH hr hlocks (Or.inl ⟨_, rfl⟩) rfl dX7_command_53
  · rw [if_neg c3] at hf
    refine lv_aload_n hx hb dX7_command_9 rfl (lv_at hl 0 rfl) ?_
    replace hf := b1_i hf
    obtain ⟨u, e47, hf⟩ := hf
    obtain ⟨fs, ek⟩ := ck_i e47
    replace hf := b2_i hf
    obtain ⟨r81, σ80, e48, hf⟩ := hf
    refine mx_ci (vy_runV (As := []) (rest := []) ⟨hx, hb, hml, hown, hts⟩ (m_X7_digit l G h0 σ2 σ80 r81 e48) (cwV 0 hts (lw_V q765 q767 qs22 q80 q768) rfl rfl rfl (by decide +kernel) ⟨Nat.le_of_ble_eq_true rfl, Nat.le_of_ble_eq_true rfl⟩) (mm_preV F.2.2.2.2.2 hH (ci := 7) rfl ek) rfl rfl hl.1 rfl (lv_room (Nat.le_of_ble_eq_true rfl)) dX7_command_10 ⟨Nat.le_of_ble_eq_true rfl, Nat.le_of_ble_eq_true rfl⟩) hH (fun qv82 H locs E ce hq hH c1 c2 c3 => ?_) (fun v79 H locs hq hH => ?_)
    · subst hq
      rw [xs_r] at hf
      obtain ⟨h1, h2⟩ := Prod.mk.inj (Option.some.inj hf)
      subst h1
      subst h2
      exact mx_out hnt hlocks hH c1 c2 c3 rfl (Nat.le_of_ble_eq_true rfl) (Nat.le_of_ble_eq_true rfl)
    · subst hq
      rw [xs_l] at hf
      refine lv_istore_n (lv' := [(1, .int v79), (0, .ref h0)]) hx hb dX7_command_13 rfl hl (by decide) rfl (fun ls hl => ?_)
      replace hf := b2_i hf
      obtain ⟨qv84, σ83, e49, hf⟩ := hf
      refine mm_new F hH mc_9 (hts _ q841) (hts _ q842) (hts _ q84) (Nat.le_of_ble_eq_true rfl) (Nat.le_of_ble_eq_true rfl) e49 dX7_command_14 (fun H hH => ?_)
      refine lv_dup hx hb dX7_command_17 rfl ?_
      refine lv_iload_n hx hb dX7_command_18 rfl (lv_at hl 0 rfl) ?_
      refine lv_aload_n hx hb dX7_command_19 rfl (lv_at hl 1 rfl) ?_
      replace hf := b1_i hf
      obtain ⟨u, e50, hf⟩ := hf
      obtain ⟨fs, ek⟩ := ck_i e50
      replace hf := b2_i hf
      obtain ⟨r87, σ86, e51, hf⟩ := hf
      refine mx_ci (vy_runV (As := []) (rest := [.int v79, .ref qv84, .ref qv84]) ⟨hx, hb, hml, hown, hts⟩ (m_X7_digit l G h0 σ83 σ86 r87 e51) (cwV 0 hts (lw_V q765 q767 qs22 q80 q768) rfl rfl rfl (by decide +kernel) ⟨Nat.le_of_ble_eq_true rfl, Nat.le_of_ble_eq_true rfl⟩) (mm_preV F.2.2.2.2.2 hH (ci := 7) rfl ek) rfl rfl hl.1 rfl (lv_room (Nat.le_of_ble_eq_true rfl)) dX7_command_20 ⟨Nat.le_of_ble_eq_true rfl, Nat.le_of_ble_eq_true rfl⟩) hH (fun qv88 H locs E ce hq hH c1 c2 c3 => ?_) (fun v85 H locs hq hH => ?_)
      · subst hq
        rw [xs_r] at hf
        obtain ⟨h1, h2⟩ := Prod.mk.inj (Option.some.inj hf)
        subst h1
        subst h2
        exact mx_out hnt hlocks hH c1 c2 c3 rfl (Nat.le_of_ble_eq_true rfl) (Nat.le_of_ble_eq_true rfl)
      · subst hq
        rw [xs_l] at hf
        replace hf := b1_i hf
        obtain ⟨σ89, e52, hf⟩ := hf
        refine mm_cv (va_runI (As := [.int v79, .int v85]) (rest := [.ref qv84]) ⟨hx, hb, hml, hown, hts⟩ (m_X9_init l G qv84 v79 v85 σ86 σ89 e52) (cwI 2 hts (lw_meth q845) rfl rfl rfl (hts _ q84) (hts _ q843) (hts _ q844) rfl (by decide +kernel) ⟨Nat.le_of_ble_eq_true rfl, Nat.le_of_ble_eq_true rfl⟩) (mm_preS F.2.2.2.2.2 hH) rfl rfl hl.1 rfl (lv_room (Nat.le_of_ble_eq_true rfl)) dX7_command_23 ⟨Nat.le_of_ble_eq_true rfl, Nat.le_of_ble_eq_true rfl⟩) hH (fun H locs hH => ?_)
        obtain ⟨h1, h2⟩ := Prod.mk.inj (Option.some.inj hf)
        subst h1
        subst h2
        refine W.widen (k := 6) (n := 38) (Nat.le_of_ble_eq_true rfl) (Nat.le_of_ble_eq_true rfl) ?_
        exact mx_retq F hH hr hlocks (Or.inl ⟨_, rfl⟩) rfl dX7_command_26
/-! IslandHeap$ScriptReader.read()Ljava/util/ArrayList; -/
noncomputable def g_X7_read_4 (h0 : Nat)   (cn cs : Nat) (σ : mm_M) : Option (((Nat × Nat × mm_M)) ⊕ ((Nat ⊕ Nat) × mm_M)) :=
  (grd (cn ≤ 330 ∧ cs ≤ 12100)).bind fun _ =>
  (gI σ h0 7 0).bind fun v1 =>
  (gA σ h0 7 2).bind fun qv2 =>
  (gI σ qv2 0 3).bind fun v3 =>
  if v3 ≤ v1 then (
    (gA σ h0 7 1).bind fun qv5 =>
    some (.inr (.inl qv5, σ)))
  else (
    (gA σ h0 7 1).bind fun qv6 =>
    (ck σ h0 7).bind fun _ =>
    (grd ((cn + 6) ≤ 330 ∧ (cs + 38) ≤ 12100)).bind fun _ =>
    b2 (f_X7_command h0 σ) fun r9 σ8 =>
    xs r9 (fun qv10 =>
      some (.inr (.inr qv10, σ8))) (fun qv7 =>
      (ck σ8 qv6 15).bind fun _ =>
      (grd (((cn + 6) + 1) ≤ 330 ∧ ((cs + 38) + 250) ≤ 12100)).bind fun _ =>
      b2 (f_J2_add_2 qv6 qv7 σ8) fun v11 σ12 =>
      (ck σ12 h0 7).bind fun _ =>
      b2 (f_X7_takes h0 (59 : Int32) σ12) fun v13 σ14 =>
      (ck σ14 h0 7).bind fun _ =>
      (grd ((((cn + 6) + 1) + 1) ≤ 330 ∧ (((cs + 38) + 250) + 7) ≤ 12100)).bind fun _ =>
      b2 (f_X7_expect h0 v13 σ14) fun r16 σ15 =>
      xs r16 (fun qv17 =>
        some (.inr (.inr qv17, σ15))) (fun u18 =>
        some (.inl ((((cn + 6) + 1) + 1), (((cs + 38) + 250) + 7), σ15)))))
noncomputable def g_X7_read_0 (h0 : Nat)   (σ : mm_M) : Option (((Nat × Nat × mm_M)) ⊕ ((Nat ⊕ Nat) × mm_M)) :=
  (ck σ h0 7).bind fun _ =>
  (f_X7_blanks h0 σ).bind fun σ1 =>
  some (.inl (0, 0, σ1))
noncomputable def s_X7_read (h0 : Nat) : (Nat × Nat × mm_M) → Option (((Nat × Nat × mm_M)) ⊕ ((Nat ⊕ Nat) × mm_M)) := fun s => g_X7_read_4 h0 s.1 s.2.1 s.2.2
noncomputable def f_X7_read (h0 : Nat) (σ : mm_M) : Option ((Nat ⊕ Nat) × mm_M) := lgo (s_X7_read h0) (g_X7_read_0 h0 σ)
/-! IslandHeap$ScriptReader.read()Ljava/util/ArrayList; -/
abbrev rm_X7_read : Room := { frames := 8, cells := 330, slots := 12100, locals := 184 }
set_option maxHeartbeats 4000000 in
theorem w_X7_read_4 {p : Program} {l : Launch} {e : Env} {s : State} {m : MethodId} {av : Array Value} {below : List Frame} {meth : Method} {c : Code} {G : mm_G} {σf : mm_M} {rr : Nat ⊕ Nat} {n : Nat} {h0 : Nat} (F : mm_F p s m av c RX7 cX7_read 1 G) (hr : meth.sig.returnType = (Option.some (.object "java/util/ArrayList"))) (hlocks : meth.locks = false) (hname : meth.name = yX7_read.name) (hnt : ∀ x ∈ c.exceptionTable.toList, False) (IH4 : ∀  (cn cs : Nat) (σ : mm_M) (H : Heap) (locs : List Loc) (ls : Array Slot), mm_H G s σ H locs → lv_has ls 1 [(0, .ref h0)] → itn (s_X7_read h0) n (cn, cs, σ) = some (rr, σf) → W p l e rm_X7_read s m av below meth c H locs cn cs (vy_MQ below (mx_Qq G rr σf) (mx_X G rr σf) av s 330 12100 (mm_A G)) (F0 m 4 ls []))    (cn cs : Nat) (σ : mm_M) (hf : evn (s_X7_read h0) n (g_X7_read_4 h0 cn cs σ) = some (rr, σf)) {H : Heap} {locs : List Loc} {ls : Array Slot} (hH : mm_H G s σ H locs) (hl : lv_has ls 1 [(0, .ref h0)]) : W p l e rm_X7_read s m av below meth c H locs cn cs (vy_MQ below (mx_Qq G rr σf) (mx_X G rr σf) av s 330 12100 (mm_A G)) (F0 m 4 ls []) := by
  have hx := F.1
  have hb := F.2.1
  have hml := F.2.2.1
  have hown := F.2.2.2.1
  have hts := F.2.2.2.2.1
  unfold g_X7_read_4 at hf
  replace hf := evn_b1 hf
  obtain ⟨u, e0, hf⟩ := hf
  have hg := grd_i e0
  refine lv_aload_n hx hb dX7_read_4 rfl (lv_at hl 0 rfl) ?_
  replace hf := evn_b1 hf
  obtain ⟨v1, e1, hf⟩ := hf
  refine mm_getI F hH mc_7 (k := 0) (by decide) (hts _ q735) (fun _ h => h) e1 dX7_read_5 ?_
  refine lv_aload_n hx hb dX7_read_8 rfl (lv_at hl 0 rfl) ?_
  replace hf := evn_b1 hf
  obtain ⟨qv2, e2, hf⟩ := hf
  refine mm_getA F hH mc_7 (k := 2) (by decide) (hts _ q737) (fun _ h => h) e2 dX7_read_9 ?_
  replace hf := evn_b1 hf
  obtain ⟨v3, e3, hf⟩ := hf
  refine mm_getIN F hH mc_0 (k := 3) (by decide) q191 (fun _ h => h) e3 dX7_read_12 ?_
  refine lv_icmp_ge (tgt := 43) hx hb dX7_read_15 (by decide) (fun c4 => ?_) (fun c4 => ?_)
  · rw [if_pos c4] at hf
    refine lv_aload_n hx hb dX7_read_43 rfl (lv_at hl 0 rfl) ?_
    replace hf := evn_b1 hf
    obtain ⟨qv5, e4, hf⟩ := hf
    refine mm_getA F hH mc_7 (k := 1) (by decide) (hts _ q736) (fun _ h => h) e4 dX7_read_44 ?_
    rw [evn_r] at hf
    obtain ⟨h1, h2⟩ := Prod.mk.inj (Option.some.inj hf)
    subst h1
    subst h2
    refine W.widen (k := 330) (n := 12100) hg.1 hg.2 ?_
    exact mx_retq F hH hr hlocks (Or.inl ⟨_, rfl⟩) rfl dX7_read_47
  · rw [if_neg c4] at hf
    refine lv_aload_n hx hb dX7_read_18 rfl (lv_at hl 0 rfl) ?_
    replace hf := evn_b1 hf
    obtain ⟨qv6, e5, hf⟩ := hf
    refine mm_getA F hH mc_7 (k := 1) (by decide) (hts _ q736) (fun _ h => h) e5 dX7_read_19 ?_
    refine lv_aload_n hx hb dX7_read_22 rfl (lv_at hl 0 rfl) ?_
    replace hf := evn_b1 hf
    obtain ⟨u, e6, hf⟩ := hf
    obtain ⟨fs, ek⟩ := ck_i e6
    replace hf := evn_b1 hf
    obtain ⟨u, e7, hf⟩ := hf
    have hg := grd_i e7
    replace hf := evn_b2 hf
    obtain ⟨r9, σ8, e8, hf⟩ := hf
    refine mx_cq (vy_runV (As := []) (rest := [.ref qv6]) ⟨hx, hb, hml, hown, hts⟩ (m_X7_command l G h0 σ σ8 r9 e8) (cwV 0 hts (lw_V q757 q759 qs20 q80 q760) rfl rfl rfl (by decide +kernel) ⟨Nat.le_of_ble_eq_true rfl, Nat.le_of_ble_eq_true rfl⟩) (mm_preV F.2.2.2.2.2 hH (ci := 7) rfl ek) rfl rfl hl.1 rfl (lv_room (Nat.le_of_ble_eq_true rfl)) dX7_read_23 hg) hH (fun qv10 H locs E ce hq hH c1 c2 c3 => ?_) (fun qv7 H locs hq hH => ?_)
    · subst hq
      rw [xs_r] at hf
      rw [evn_r] at hf
      obtain ⟨h1, h2⟩ := Prod.mk.inj (Option.some.inj hf)
      subst h1
      subst h2
      exact mx_out hnt hlocks hH c1 c2 c3 rfl hg.1 hg.2
    · subst hq
      rw [xs_l] at hf
      replace hf := evn_b1 hf
      obtain ⟨u, e9, hf⟩ := hf
      obtain ⟨fs, ek⟩ := ck_i e9
      replace hf := evn_b1 hf
      obtain ⟨u, e10, hf⟩ := hf
      have hg := grd_i e10
      replace hf := evn_b2 hf
      obtain ⟨v11, σ12, e11, hf⟩ := hf
      refine mm_ci (va_runV (As := [.ref qv7]) (rest := []) ⟨hx, hb, hml, hown, hts⟩ (m_J2_add_2 l G qv6 qv7 σ8 σ12 v11 e11) (cwV 1 hts (lw_V q924 q925 q926 q66 q927) rfl rfl rfl (by decide +kernel) ⟨Nat.le_of_ble_eq_true rfl, Nat.le_of_ble_eq_true rfl⟩) (mm_preV F.2.2.2.2.2 hH (ci := 15) rfl ek) rfl rfl hl.1 rfl (lv_room (Nat.le_of_ble_eq_true rfl)) dX7_read_26 hg) hH (fun H locs hH => ?_)
      refine lv_pop hx hb dX7_read_29 rfl ?_
      refine lv_aload_n hx hb dX7_read_30 rfl (lv_at hl 0 rfl) ?_
      refine lv_aload_n hx hb dX7_read_31 rfl (lv_at hl 0 rfl) ?_
      refine lv_bipush (v := 59) hx hb dX7_read_32 (by decide) ?_
      replace hf := evn_b1 hf
      obtain ⟨u, e12, hf⟩ := hf
      obtain ⟨fs, ek⟩ := ck_i e12
      replace hf := evn_b2 hf
      obtain ⟨v13, σ14, e13, hf⟩ := hf
      refine mm_ci (va_runV (As := [.int (59 : Int32)]) (rest := [.ref h0]) ⟨hx, hb, hml, hown, hts⟩ (m_X7_takes l G h0 (59 : Int32) σ12 σ14 v13 e13) (cwV 1 hts (lw_V q761 q763 qs21 q80 q764) rfl rfl rfl (by decide +kernel) ⟨Nat.le_of_ble_eq_true rfl, Nat.le_of_ble_eq_true rfl⟩) (mm_preV F.2.2.2.2.2 hH (ci := 7) rfl ek) rfl rfl hl.1 rfl (lv_room (Nat.le_of_ble_eq_true rfl)) dX7_read_34 hg) hH (fun H locs hH => ?_)
      replace hf := evn_b1 hf
      obtain ⟨u, e14, hf⟩ := hf
      obtain ⟨fs, ek⟩ := ck_i e14
      replace hf := evn_b1 hf
      obtain ⟨u, e15, hf⟩ := hf
      have hg := grd_i e15
      replace hf := evn_b2 hf
      obtain ⟨r16, σ15, e16, hf⟩ := hf
      refine mx_cv (vy_runV (As := [.int v13]) (rest := []) ⟨hx, hb, hml, hown, hts⟩ (m_X7_expect l G h0 v13 σ14 σ15 r16 e16) (cwV 1 hts (lw_V q774 q776 qs24 q80 q777) rfl rfl rfl (by decide +kernel) ⟨Nat.le_of_ble_eq_true rfl, Nat.le_of_ble_eq_true rfl⟩) (mm_preV F.2.2.2.2.2 hH (ci := 7) rfl ek) rfl rfl hl.1 rfl (lv_room (Nat.le_of_ble_eq_true rfl)) dX7_read_37 hg) hH (fun qv17 H locs E ce hq hH c1 c2 c3 => ?_) (fun u18 H locs hq hH => ?_)
      · subst hq
        rw [xs_r] at hf
        rw [evn_r] at hf
        obtain ⟨h1, h2⟩ := Prod.mk.inj (Option.some.inj hf)
        subst h1
        subst h2
        exact mx_out hnt hlocks hH c1 c2 c3 rfl hg.1 hg.2
      · subst hq
        rw [xs_l] at hf
        refine lv_goto (tgt := 4) hx hb dX7_read_40 (by decide) ?_
        rw [evn_l] at hf
        exact IH4  (((cn + 6) + 1) + 1) (((cs + 38) + 250) + 7) σ15 _ _ _ hH (lv_sub hl [0] rfl) hf
set_option maxHeartbeats 4000000 in
theorem w_X7_read_0 {p : Program} {l : Launch} {e : Env} {s : State} {m : MethodId} {av : Array Value} {below : List Frame} {meth : Method} {c : Code} {G : mm_G} {σf : mm_M} {rr : Nat ⊕ Nat} {n : Nat} {h0 : Nat} (F : mm_F p s m av c RX7 cX7_read 1 G) (hr : meth.sig.returnType = (Option.some (.object "java/util/ArrayList"))) (hlocks : meth.locks = false) (hname : meth.name = yX7_read.name) (hnt : ∀ x ∈ c.exceptionTable.toList, False) (IH4 : ∀  (cn cs : Nat) (σ : mm_M) (H : Heap) (locs : List Loc) (ls : Array Slot), mm_H G s σ H locs → lv_has ls 1 [(0, .ref h0)] → itn (s_X7_read h0) n (cn, cs, σ) = some (rr, σf) → W p l e rm_X7_read s m av below meth c H locs cn cs (vy_MQ below (mx_Qq G rr σf) (mx_X G rr σf) av s 330 12100 (mm_A G)) (F0 m 4 ls []))    (σ : mm_M) (hf : evn (s_X7_read h0) n (g_X7_read_0 h0 σ) = some (rr, σf)) {H : Heap} {locs : List Loc} {ls : Array Slot} (hH : mm_H G s σ H locs) (hl : lv_has ls 1 [(0, .ref h0)]) : W p l e rm_X7_read s m av below meth c H locs 0 0 (vy_MQ below (mx_Qq G rr σf) (mx_X G rr σf) av s 330 12100 (mm_A G)) (F0 m 0 ls []) := by
  have hx := F.1
  have hb := F.2.1
  have hml := F.2.2.1
  have hown := F.2.2.2.1
  have hts := F.2.2.2.2.1
  unfold g_X7_read_0 at hf
  have hg : 0 ≤ 330 ∧ 0 ≤ 12100 := ⟨Nat.zero_le _, Nat.zero_le _⟩
  refine lv_aload_n hx hb dX7_read_0 rfl (lv_at hl 0 rfl) ?_
  replace hf := evn_b1 hf
  obtain ⟨u, e1, hf⟩ := hf
  obtain ⟨fs, ek⟩ := ck_i e1
  replace hf := evn_b1 hf
  obtain ⟨σ1, e2, hf⟩ := hf
  refine mm_cv (va_runV (As := []) (rest := []) ⟨hx, hb, hml, hown, hts⟩ (m_X7_blanks l G h0 σ σ1 e2) (cwV 0 hts (lw_V q749 q751 qs18 q80 q752) rfl rfl rfl (by decide +kernel) ⟨Nat.le_of_ble_eq_true rfl, Nat.le_of_ble_eq_true rfl⟩) (mm_preV F.2.2.2.2.2 hH (ci := 7) rfl ek) rfl rfl hl.1 rfl (lv_room (Nat.le_of_ble_eq_true rfl)) dX7_read_1 hg) hH (fun H locs hH => ?_)
  rw [evn_l] at hf
  exact IH4  0 0 σ1 _ _ _ hH (lv_sub hl [0] rfl) hf
set_option maxHeartbeats 4000000 in
theorem l_X7_read {p : Program} {l : Launch} {e : Env} {s : State} {m : MethodId} {av : Array Value} {below : List Frame} {meth : Method} {c : Code} {G : mm_G} {σf : mm_M} {rr : Nat ⊕ Nat} {h0 : Nat} (F : mm_F p s m av c RX7 cX7_read 1 G) (hr : meth.sig.returnType = (Option.some (.object "java/util/ArrayList"))) (hlocks : meth.locks = false) (hname : meth.name = yX7_read.name) (hnt : ∀ x ∈ c.exceptionTable.toList, False) : ∀ n : Nat, (∀  (cn cs : Nat) (σ : mm_M) (H : Heap) (locs : List Loc) (ls : Array Slot), mm_H G s σ H locs → lv_has ls 1 [(0, .ref h0)] → itn (s_X7_read h0) n (cn, cs, σ) = some (rr, σf) → W p l e rm_X7_read s m av below meth c H locs cn cs (vy_MQ below (mx_Qq G rr σf) (mx_X G rr σf) av s 330 12100 (mm_A G)) (F0 m 4 ls [])) := by
  intro n
  induction n with
  | zero =>
    exact fun cn cs σ H locs ls hH hl hf => by cases hf
  | succ n ih =>
    have IH4 := ih
    intro cn cs σ H locs ls hH hl hf
    rw [itn_s] at hf
    exact w_X7_read_4 F hr hlocks hname hnt IH4 cn cs σ hf hH hl
set_option maxHeartbeats 4000000 in
theorem m_X7_read (l : Launch) (G : mm_G) (h0 : Nat) (σ : mm_M) (σf : mm_M) (rr : Nat ⊕ Nat) (hf : f_X7_read h0 σ = some (rr, σf)) : vy_Met l yX7_read (ws_ yX7_read cX7_read 1 ((Option.some (.object "java/util/ArrayList")))) rm_X7_read (mm_Pc G [.ref h0] σ) (mx_Qq G rr σf) (mx_X G rr σf) 330 12100 (mm_A G) := by
  refine mx_met (by decide) (by  exact Nat.le_of_ble_eq_true rfl) (fun p e s m below meth c ls F hH hr hlocks hname hnt hl => ?_)
  have hl : lv_has ls 1 [(0, .ref h0)] := by  exact hl
  have F : mm_F p s m _ c RX7 cX7_read 1 G := F
  unfold f_X7_read at hf
  obtain ⟨n, hf⟩ := lgo_i hf
  have IH := l_X7_read (l := l) (e := e) (below := below) (rr := rr) (σf := σf) (h0 := h0) F hr hlocks hname hnt n
  exact w_X7_read_0 F hr hlocks hname hnt IH σ hf hH (lv_sub hl [0] rfl)
/-! IslandHeap.fault()I -/
noncomputable def f_X0_fault (h0 : Nat) (σ : mm_M) : Option (Int32 × mm_M) :=
  b2 (nO σ 7 df_7) fun qv2 σ1 =>
  (f_X7_init qv2 h0 σ1).bind fun σ3 =>
  (ck σ3 qv2 7).bind fun _ =>
  b2 (f_X7_read qv2 σ3) fun r6 σ5 =>
  xs r6 (fun qv7 =>
    (ck σ5 qv7 8).bind fun _ =>
    (gI σ5 qv7 8 6).bind fun v8 =>
    some (v8, σ5)) (fun qv4 =>
    some ((-1 : Int32), σ5))
/-! IslandHeap.fault()I -/
abbrev rm_X0_fault : Room := { frames := 9, cells := 332, slots := 12106, locals := 204 }
set_option maxHeartbeats 4000000 in
theorem m_X0_fault (l : Launch) (G : mm_G) (h0 : Nat) (σ : mm_M) (σf : mm_M) (rr : Int32) (hf : f_X0_fault h0 σ = some (rr, σf)) : Met l yX0_fault (wsW_ yX0_fault cX0_fault 2 ((Option.some .int)) [(0, 13, 14, 235)]) rm_X0_fault (mm_Pc G [.ref h0] σ) (mm_Qi G rr σf) 332 12106 (mm_A G) := by
  refine mx_metW (by decide) (by  exact Nat.le_of_ble_eq_true rfl) (fun p e s m below meth c ls F hH hr hlocks hname htb hl => ?_)
  have hl : lv_has ls 2 [(0, .ref h0)] := by  exact hl
  have F : mm_F p s m _ c RX0 cX0_fault 2 G := F
  have hx := F.1
  have hb := F.2.1
  have hml := F.2.2.1
  have hown := F.2.2.2.1
  have hts := F.2.2.2.2.1
  unfold f_X0_fault at hf
  replace hf := b2_i hf
  obtain ⟨qv2, σ1, e1, hf⟩ := hf
  refine mm_new F hH mc_7 (hts _ q727) (hts _ q728) (hts _ q80) (Nat.le_of_ble_eq_true rfl) (Nat.le_of_ble_eq_true rfl) e1 dX0_fault_0 (fun H hH => ?_)
  refine lv_dup hx hb dX0_fault_3 rfl ?_
  refine lv_aload_n hx hb dX0_fault_4 rfl (lv_at hl 0 rfl) ?_
  replace hf := b1_i hf
  obtain ⟨σ3, e2, hf⟩ := hf
  refine mm_cv (va_runIN (As := [.ref h0]) (rest := [.ref qv2]) ⟨hx, hb, hml, hown, hts⟩ (m_X7_init l G qv2 h0 σ1 σ3 e2) ⟨(va_cnB 1 hts (lw_meth q731) rfl rfl rfl (F.2.2.2.2.2.2.1 _ q729 rfl) (hts _ q80) (by decide +kernel) ⟨Nat.le_of_ble_eq_true rfl, Nat.le_of_ble_eq_true rfl⟩), rfl, hts _ q730⟩ (mm_preS F.2.2.2.2.2 hH) rfl rfl hl.1 rfl (lv_room (Nat.le_of_ble_eq_true rfl)) dX0_fault_5 ⟨Nat.le_of_ble_eq_true rfl, Nat.le_of_ble_eq_true rfl⟩) hH (fun H locs hH => ?_)
  replace hf := b1_i hf
  obtain ⟨u, e3, hf⟩ := hf
  obtain ⟨fs, ek⟩ := ck_i e3
  replace hf := b2_i hf
  obtain ⟨r6, σ5, e4, hf⟩ := hf
  refine mx_cq (vy_runV (As := []) (rest := []) ⟨hx, hb, hml, hown, hts⟩ (m_X7_read l G qv2 σ3 σ5 r6 e4) (cwV 0 hts (lw_V q745 q746 q747 q80 q748) rfl rfl rfl (by decide +kernel) ⟨Nat.le_of_ble_eq_true rfl, Nat.le_of_ble_eq_true rfl⟩) (mm_preV F.2.2.2.2.2 hH (ci := 7) rfl ek) rfl rfl hl.1 rfl (lv_room (Nat.le_of_ble_eq_true rfl)) dX0_fault_8 ⟨Nat.le_of_ble_eq_true rfl, Nat.le_of_ble_eq_true rfl⟩) hH (fun qv7 H locs E ce hq hH c1 c2 c3 => ?_) (fun qv4 H locs hq hH => ?_)
  · subst hq
    rw [xs_r] at hf
    replace hf := b1_i hf
    obtain ⟨u, e5, hf⟩ := hf
    refine mx_catch F hH e5 htb (hts _ q726) (F.2.2.2.2.2.2.1 _ q780 rfl) (by decide) (by decide) ?_
    refine lv_astore_n (lv' := [(1, .ref qv7), (0, .ref h0)]) hx hb dX0_fault_14 rfl hl (by decide) rfl (fun ls hl => ?_)
    refine lv_aload_n hx hb dX0_fault_15 rfl (lv_at hl 0 rfl) ?_
    replace hf := b1_i hf
    obtain ⟨v8, e6, hf⟩ := hf
    refine mm_getIN F hH mc_8 (k := 6) (by decide) q825 (fun _ h => h) e6 dX0_fault_16 ?_
    obtain ⟨h1, h2⟩ := Prod.mk.inj (Option.some.inj hf)
    subst h1
    subst h2
    exact mm_reti F hH hr hlocks rfl rfl dX0_fault_19
  · subst hq
    rw [xs_l] at hf
    refine lv_pop hx hb dX0_fault_11 rfl ?_
    refine lv_iconst (v := (-1)) hx hb dX0_fault_12 (by decide) ?_
    obtain ⟨h1, h2⟩ := Prod.mk.inj (Option.some.inj hf)
    subst h1
    subst h2
    exact mm_reti F hH hr hlocks rfl rfl dX0_fault_13
/-! IslandHeap.run()I -/
noncomputable def g_X0_run_69 (h0 : Nat) (a1 : Nat) (x2 : Int32) (x3 : Int32) (t0 : Nat) (t1 : Int32) (cn cs : Nat) (σ : mm_M) : Option (((Nat × Int32 × Nat × Nat × mm_M)) ⊕ (Int32 × mm_M)) :=
  (grd (cn ≤ 500 ∧ cs ≤ 24000)).bind fun _ =>
  (pF σ t0 0 4 (vI t1)).bind fun σ1 =>
  (f_X0_isError x3 σ1).bind fun v2 =>
  if v2 = 0 then (
    some (.inl (a1, (x2 + (1 : Int32)), cn, cs, σ1)))
  else (
    some (.inl (a1, (x2 + (0 : Int32)), cn, cs, σ1)))
noncomputable def g_X0_run_26 (h0 : Nat) (a1 : Nat) (x2 : Int32)  (cn cs : Nat) (σ : mm_M) : Option (((Nat × Int32 × Nat × Nat × mm_M)) ⊕ (Int32 × mm_M)) :=
  (grd (cn ≤ 500 ∧ cs ≤ 24000)).bind fun _ =>
  (ck σ a1 15).bind fun _ =>
  (f_J2_size a1 σ).bind fun v1 =>
  if v1 ≤ x2 then (
    some (.inr (x2, σ)))
  else (
    (gI σ h0 0 4).bind fun v3 =>
    if v3 = 0 then (
      (ck σ a1 15).bind fun _ =>
      (f_J2_get a1 x2 σ).bind fun p5 =>
      (p5).bind fun qv6 =>
      (ckC σ qv6).bind fun _ =>
      (grd ((cn + 4) ≤ 500 ∧ (cs + 268) ≤ 24000)).bind fun _ =>
      b2 (f_cmd qv6 h0 σ) fun v7 σ8 =>
      (f_X0_isError v7 σ8).bind fun v9 =>
      if v9 = 0 then (
        g_X0_run_69 h0 a1 x2 v7 h0 (0 : Int32) (cn + 4) (cs + 268) σ8)
      else (
        g_X0_run_69 h0 a1 x2 v7 h0 v7 (cn + 4) (cs + 268) σ8))
    else (
      some (.inr (x2, σ))))
noncomputable def g_X0_run_0 (h0 : Nat)   (σ : mm_M) : Option (((Nat × Int32 × Nat × Nat × mm_M)) ⊕ (Int32 × mm_M)) :=
  (grd ((0 + 1) ≤ 500 ∧ (0 + 3) ≤ 24000)).bind fun _ =>
  b2 (nO σ 7 df_7) fun qv2 σ1 =>
  (grd (((0 + 1) + 1) ≤ 500 ∧ ((0 + 3) + 3) ≤ 24000)).bind fun _ =>
  (f_X7_init qv2 h0 σ1).bind fun σ3 =>
  (ck σ3 qv2 7).bind fun _ =>
  (grd ((((0 + 1) + 1) + 330) ≤ 500 ∧ (((0 + 3) + 3) + 12100) ≤ 24000)).bind fun _ =>
  b2 (f_X7_read qv2 σ3) fun r6 σ5 =>
  xs r6 (fun qv7 =>
    (ck σ5 qv7 8).bind fun _ =>
    some (.inr ((-1000003 : Int32), σ5))) (fun qv4 =>
    (pF σ5 h0 0 4 (vI (0 : Int32))).bind fun σ8 =>
    some (.inl (qv4, (0 : Int32), (((0 + 1) + 1) + 330), (((0 + 3) + 3) + 12100), σ8)))
noncomputable def s_X0_run (h0 : Nat) : (Nat × Int32 × Nat × Nat × mm_M) → Option (((Nat × Int32 × Nat × Nat × mm_M)) ⊕ (Int32 × mm_M)) := fun s => g_X0_run_26 h0 s.1 s.2.1 s.2.2.1 s.2.2.2.1 s.2.2.2.2
noncomputable def f_X0_run (h0 : Nat) (σ : mm_M) : Option (Int32 × mm_M) := lgo (s_X0_run h0) (g_X0_run_0 h0 σ)
/-! IslandHeap.run()I -/
abbrev rm_X0_run : Room := { frames := 9, cells := 500, slots := 24000, locals := 210 }
set_option maxHeartbeats 4000000 in
theorem w_X0_run_69 {p : Program} {l : Launch} {e : Env} {s : State} {m : MethodId} {av : Array Value} {below : List Frame} {meth : Method} {c : Code} {G : mm_G} {σf : mm_M} {rr : Int32} {n : Nat} {h0 : Nat} (F : mm_F p s m av c RX0 cX0_run 4 G) (hr : meth.sig.returnType = (Option.some .int)) (hlocks : meth.locks = false) (hname : meth.name = yX0_run.name) (htb : c.exceptionTable.toList = tableOf [(0, 12, 15, 235)]) (IH26 : ∀ (a1 : Nat) (x2 : Int32) (cn cs : Nat) (σ : mm_M) (H : Heap) (locs : List Loc) (ls : Array Slot), mm_H G s σ H locs → lv_has ls 4 [(0, .ref h0), (1, .ref a1), (2, .int x2)] → itn (s_X0_run h0) n (a1, x2, cn, cs, σ) = some (rr, σf) → W p l e rm_X0_run s m av below meth c H locs cn cs (MQ below (mm_Qi G rr σf) av s 500 24000 (mm_A G)) (F0 m 26 ls []))  (a1 : Nat) (x2 : Int32) (x3 : Int32) (t0 : Nat) (t1 : Int32) (cn cs : Nat) (σ : mm_M) (hf : evn (s_X0_run h0) n (g_X0_run_69 h0 a1 x2 x3 t0 t1 cn cs σ) = some (rr, σf)) {H : Heap} {locs : List Loc} {ls : Array Slot} (hH : mm_H G s σ H locs) (hl : lv_has ls 4 [(0, .ref h0), (1, .ref a1), (2, .int x2), (3, .int x3)]) : W p l e rm_X0_run s m av below meth c H locs cn cs (MQ below (mm_Qi G rr σf) av s 500 24000 (mm_A G)) (F0 m 69 ls [.int t1, .ref t0]) := by
  have hx := F.1
  have hb := F.2.1
  have hml := F.2.2.1
  have hown := F.2.2.2.1
  have hts := F.2.2.2.2.1
  unfold g_X0_run_69 at hf
  replace hf := evn_b1 hf
  obtain ⟨u, e0, hf⟩ := hf
  have hg := grd_i e0
  replace hf := evn_b1 hf
  obtain ⟨σ1, e1, hf⟩ := hf
  refine mm_put F hH mc_0 (k := 4) (v := vI t1) (by decide) (hts _ q193) (fun _ h => h) rfl rfl rfl e1 dX0_run_69 (fun H locs hH => ?_)
  refine lv_iload_n hx hb dX0_run_72 rfl (lv_at hl 2 rfl) ?_
  refine lv_iload_n hx hb dX0_run_73 rfl (lv_at hl 3 rfl) ?_
  replace hf := evn_b1 hf
  obtain ⟨v2, e2, hf⟩ := hf
  refine mm_ci (va_runS (As := [.int x3]) (rest := [.int x2]) ⟨hx, hb, hml, hown, hts⟩ (m_X0_isError l G x3 σ1 v2 e2) (va_cwS 1 hts (lw_S q983 q984 q62 q985) rfl rfl rfl (by decide +kernel) ⟨Nat.le_of_ble_eq_true rfl, Nat.le_of_ble_eq_true rfl⟩) (mm_preS F.2.2.2.2.2 hH) rfl rfl hl.1 rfl (lv_room (Nat.le_of_ble_eq_true rfl)) dX0_run_74 hg) hH (fun H locs hH => ?_)
  refine lv_if_eq (tgt := 84) hx hb dX0_run_77 (by decide) (fun c3 => ?_) (fun c3 => ?_)
  · rw [if_pos c3] at hf
    refine lv_iconst (v := 1) hx hb dX0_run_84 (by decide) ?_
    refine lv_iadd hx hb dX0_run_85 ?_
    refine lv_istore_n (lv' := [(2, .int (x2 + (1 : Int32))), (0, .ref h0), (1, .ref a1), (3, .int x3)]) hx hb dX0_run_86 rfl hl (by decide) rfl (fun ls hl => ?_)
    refine lv_goto (tgt := 26) hx hb dX0_run_87 (by decide) ?_
    rw [evn_l] at hf
    exact IH26 a1 (x2 + (1 : Int32)) cn cs σ1 _ _ _ hH (lv_sub hl [1, 2, 0] rfl) hf
  · rw [if_neg c3] at hf
    refine lv_iconst (v := 0) hx hb dX0_run_80 (by decide) ?_
    refine lv_goto (tgt := 85) hx hb dX0_run_81 (by decide) ?_
    refine lv_iadd hx hb dX0_run_85 ?_
    refine lv_istore_n (lv' := [(2, .int (x2 + (0 : Int32))), (0, .ref h0), (1, .ref a1), (3, .int x3)]) hx hb dX0_run_86 rfl hl (by decide) rfl (fun ls hl => ?_)
    refine lv_goto (tgt := 26) hx hb dX0_run_87 (by decide) ?_
    rw [evn_l] at hf
    exact IH26 a1 (x2 + (0 : Int32)) cn cs σ1 _ _ _ hH (lv_sub hl [1, 2, 0] rfl) hf
set_option maxHeartbeats 4000000 in
theorem w_X0_run_26 {p : Program} {l : Launch} {e : Env} {s : State} {m : MethodId} {av : Array Value} {below : List Frame} {meth : Method} {c : Code} {G : mm_G} {σf : mm_M} {rr : Int32} {n : Nat} {h0 : Nat} (F : mm_F p s m av c RX0 cX0_run 4 G) (hr : meth.sig.returnType = (Option.some .int)) (hlocks : meth.locks = false) (hname : meth.name = yX0_run.name) (htb : c.exceptionTable.toList = tableOf [(0, 12, 15, 235)]) (IH26 : ∀ (a1 : Nat) (x2 : Int32) (cn cs : Nat) (σ : mm_M) (H : Heap) (locs : List Loc) (ls : Array Slot), mm_H G s σ H locs → lv_has ls 4 [(0, .ref h0), (1, .ref a1), (2, .int x2)] → itn (s_X0_run h0) n (a1, x2, cn, cs, σ) = some (rr, σf) → W p l e rm_X0_run s m av below meth c H locs cn cs (MQ below (mm_Qi G rr σf) av s 500 24000 (mm_A G)) (F0 m 26 ls []))  (a1 : Nat) (x2 : Int32)  (cn cs : Nat) (σ : mm_M) (hf : evn (s_X0_run h0) n (g_X0_run_26 h0 a1 x2 cn cs σ) = some (rr, σf)) {H : Heap} {locs : List Loc} {ls : Array Slot} (hH : mm_H G s σ H locs) (hl : lv_has ls 4 [(0, .ref h0), (1, .ref a1), (2, .int x2)]) : W p l e rm_X0_run s m av below meth c H locs cn cs (MQ below (mm_Qi G rr σf) av s 500 24000 (mm_A G)) (F0 m 26 ls []) := by
  have hx := F.1
  have hb := F.2.1
  have hml := F.2.2.1
  have hown := F.2.2.2.1
  have hts := F.2.2.2.2.1
  unfold g_X0_run_26 at hf
  replace hf := evn_b1 hf
  obtain ⟨u, e0, hf⟩ := hf
  have hg := grd_i e0
  refine lv_iload_n hx hb dX0_run_26 rfl (lv_at hl 2 rfl) ?_
  refine lv_aload_n hx hb dX0_run_27 rfl (lv_at hl 1 rfl) ?_
  replace hf := evn_b1 hf
  obtain ⟨u, e1, hf⟩ := hf
  obtain ⟨fs, ek⟩ := ck_i e1
  replace hf := evn_b1 hf
  obtain ⟨v1, e2, hf⟩ := hf
  refine mm_ci (va_runV (As := []) (rest := [.int x2]) ⟨hx, hb, hml, hown, hts⟩ (m_J2_size l G a1 σ v1 e2) (cwV 0 hts (lw_V q661 q291 q292 q66 q293) rfl rfl rfl (by decide +kernel) ⟨Nat.le_of_ble_eq_true rfl, Nat.le_of_ble_eq_true rfl⟩) (mm_preV F.2.2.2.2.2 hH (ci := 15) rfl ek) rfl rfl hl.1 rfl (lv_room (Nat.le_of_ble_eq_true rfl)) dX0_run_28 hg) hH (fun H locs hH => ?_)
  refine lv_icmp_ge (tgt := 90) hx hb dX0_run_31 (by decide) (fun c2 => ?_) (fun c2 => ?_)
  · rw [if_pos c2] at hf
    refine lv_iload_n hx hb dX0_run_90 rfl (lv_at hl 2 rfl) ?_
    rw [evn_r] at hf
    obtain ⟨h1, h2⟩ := Prod.mk.inj (Option.some.inj hf)
    subst h1
    subst h2
    refine W.widen (k := 500) (n := 24000) hg.1 hg.2 ?_
    exact mm_reti F hH hr hlocks rfl rfl dX0_run_91
  · rw [if_neg c2] at hf
    refine lv_aload_n hx hb dX0_run_34 rfl (lv_at hl 0 rfl) ?_
    replace hf := evn_b1 hf
    obtain ⟨v3, e3, hf⟩ := hf
    refine mm_getI F hH mc_0 (k := 4) (by decide) (hts _ q193) (fun _ h => h) e3 dX0_run_35 ?_
    refine lv_if_ne (tgt := 90) hx hb dX0_run_38 (by decide) (fun c4 => ?_) (fun c4 => ?_)
    · rw [if_neg c4] at hf
      refine lv_iload_n hx hb dX0_run_90 rfl (lv_at hl 2 rfl) ?_
      rw [evn_r] at hf
      obtain ⟨h1, h2⟩ := Prod.mk.inj (Option.some.inj hf)
      subst h1
      subst h2
      refine W.widen (k := 500) (n := 24000) hg.1 hg.2 ?_
      exact mm_reti F hH hr hlocks rfl rfl dX0_run_91
    · rw [if_pos c4] at hf
      refine lv_aload_n hx hb dX0_run_41 rfl (lv_at hl 1 rfl) ?_
      refine lv_iload_n hx hb dX0_run_42 rfl (lv_at hl 2 rfl) ?_
      replace hf := evn_b1 hf
      obtain ⟨u, e4, hf⟩ := hf
      obtain ⟨fs, ek⟩ := ck_i e4
      replace hf := evn_b1 hf
      obtain ⟨p5, e5, hf⟩ := hf
      refine mm_cq (va_runV (As := [.int x2]) (rest := []) ⟨hx, hb, hml, hown, hts⟩ (m_J2_get l G a1 x2 σ p5 e5) (cwV 1 hts (lw_V q662 q295 q296 q66 q297) rfl rfl rfl (by decide +kernel) ⟨Nat.le_of_ble_eq_true rfl, Nat.le_of_ble_eq_true rfl⟩) (mm_preV F.2.2.2.2.2 hH (ci := 15) rfl ek) rfl rfl hl.1 rfl (lv_room (Nat.le_of_ble_eq_true rfl)) dX0_run_43 hg) hH (fun H locs hH => ?_)
      replace hf := evn_b1 hf
      obtain ⟨qv6, e6, hf⟩ := hf
      subst e6
      replace hf := evn_b1 hf
      obtain ⟨u, e7, hf⟩ := hf
      refine mm_castC F hH (hts _ q936) e7 dX0_run_46 ?_
      refine lv_aload_n hx hb dX0_run_49 rfl (lv_at hl 0 rfl) ?_
      replace hf := evn_b1 hf
      obtain ⟨u, e8, hf⟩ := hf
      have hg := grd_i e8
      replace hf := evn_b2 hf
      obtain ⟨v7, σ8, e9, hf⟩ := hf
      refine mx_ci5 (mm_runOn (rest := []) F hH e9 q938 hl.1 (Nat.le_of_ble_eq_true rfl) dX0_run_50 (Nat.le_of_ble_eq_true rfl) (Nat.le_of_ble_eq_true rfl) hg) hH (fun H locs hH => ?_)
      refine lv_istore_n (lv' := [(3, .int v7), (0, .ref h0), (1, .ref a1), (2, .int x2)]) hx hb dX0_run_55 rfl hl (by decide) rfl (fun ls hl => ?_)
      refine lv_aload_n hx hb dX0_run_56 rfl (lv_at hl 1 rfl) ?_
      refine lv_iload_n hx hb dX0_run_57 rfl (lv_at hl 0 rfl) ?_
      replace hf := evn_b1 hf
      obtain ⟨v9, e10, hf⟩ := hf
      refine mm_ci (va_runS (As := [.int v7]) (rest := [.ref h0]) ⟨hx, hb, hml, hown, hts⟩ (m_X0_isError l G v7 σ8 v9 e10) (va_cwS 1 hts (lw_S q983 q984 q62 q985) rfl rfl rfl (by decide +kernel) ⟨Nat.le_of_ble_eq_true rfl, Nat.le_of_ble_eq_true rfl⟩) (mm_preS F.2.2.2.2.2 hH) rfl rfl hl.1 rfl (lv_room (Nat.le_of_ble_eq_true rfl)) dX0_run_58 hg) hH (fun H locs hH => ?_)
      refine lv_if_eq (tgt := 68) hx hb dX0_run_61 (by decide) (fun c10 => ?_) (fun c10 => ?_)
      · rw [if_pos c10] at hf
        refine lv_iconst (v := 0) hx hb dX0_run_68 (by decide) ?_
        exact w_X0_run_69 F hr hlocks hname htb IH26 a1 x2 v7 h0 (0 : Int32) (cn + 4) (cs + 268) σ8 hf hH (lv_sub hl [1, 2, 3, 0] rfl)
      · rw [if_neg c10] at hf
        refine lv_iload_n hx hb dX0_run_64 rfl (lv_at hl 0 rfl) ?_
        refine lv_goto (tgt := 69) hx hb dX0_run_65 (by decide) ?_
        exact w_X0_run_69 F hr hlocks hname htb IH26 a1 x2 v7 h0 v7 (cn + 4) (cs + 268) σ8 hf hH (lv_sub hl [1, 2, 3, 0] rfl)
set_option maxHeartbeats 4000000 in
theorem w_X0_run_0 {p : Program} {l : Launch} {e : Env} {s : State} {m : MethodId} {av : Array Value} {below : List Frame} {meth : Method} {c : Code} {G : mm_G} {σf : mm_M} {rr : Int32} {n : Nat} {h0 : Nat} (F : mm_F p s m av c RX0 cX0_run 4 G) (hr : meth.sig.returnType = (Option.some .int)) (hlocks : meth.locks = false) (hname : meth.name = yX0_run.name) (htb : c.exceptionTable.toList = tableOf [(0, 12, 15, 235)]) (IH26 : ∀ (a1 : Nat) (x2 : Int32) (cn cs : Nat) (σ : mm_M) (H : Heap) (locs : List Loc) (ls : Array Slot), mm_H G s σ H locs → lv_has ls 4 [(0, .ref h0), (1, .ref a1), (2, .int x2)] → itn (s_X0_run h0) n (a1, x2, cn, cs, σ) = some (rr, σf) → W p l e rm_X0_run s m av below meth c H locs cn cs (MQ below (mm_Qi G rr σf) av s 500 24000 (mm_A G)) (F0 m 26 ls []))    (σ : mm_M) (hf : evn (s_X0_run h0) n (g_X0_run_0 h0 σ) = some (rr, σf)) {H : Heap} {locs : List Loc} {ls : Array Slot} (hH : mm_H G s σ H locs) (hl : lv_has ls 4 [(0, .ref h0)]) : W p l e rm_X0_run s m av below meth c H locs 0 0 (MQ below (mm_Qi G rr σf) av s 500 24000 (mm_A G)) (F0 m 0 ls []) := by
  have hx := F.1
  have hb := F.2.1
  have hml := F.2.2.1
  have hown := F.2.2.2.1
  have hts := F.2.2.2.2.1
  unfold g_X0_run_0 at hf
  have hg : 0 ≤ 500 ∧ 0 ≤ 24000 := ⟨Nat.zero_le _, Nat.zero_le _⟩
  replace hf := evn_b1 hf
  obtain ⟨u, e1, hf⟩ := hf
  have hg := grd_i e1
  replace hf := evn_b2 hf
  obtain ⟨qv2, σ1, e2, hf⟩ := hf
  refine mm_new F hH mc_7 (hts _ q727) (hts _ q728) (hts _ q80) hg.1 hg.2 e2 dX0_run_0 (fun H hH => ?_)
  refine lv_dup hx hb dX0_run_3 rfl ?_
  refine lv_aload_n hx hb dX0_run_4 rfl (lv_at hl 0 rfl) ?_
  replace hf := evn_b1 hf
  obtain ⟨u, e3, hf⟩ := hf
  have hg := grd_i e3
  replace hf := evn_b1 hf
  obtain ⟨σ3, e4, hf⟩ := hf
  refine mm_cv (va_runIN (As := [.ref h0]) (rest := [.ref qv2]) ⟨hx, hb, hml, hown, hts⟩ (m_X7_init l G qv2 h0 σ1 σ3 e4) ⟨(va_cnB 1 hts (lw_meth q731) rfl rfl rfl (F.2.2.2.2.2.2.1 _ q729 rfl) (hts _ q80) (by decide +kernel) ⟨Nat.le_of_ble_eq_true rfl, Nat.le_of_ble_eq_true rfl⟩), rfl, hts _ q730⟩ (mm_preS F.2.2.2.2.2 hH) rfl rfl hl.1 rfl (lv_room (Nat.le_of_ble_eq_true rfl)) dX0_run_5 hg) hH (fun H locs hH => ?_)
  replace hf := evn_b1 hf
  obtain ⟨u, e5, hf⟩ := hf
  obtain ⟨fs, ek⟩ := ck_i e5
  replace hf := evn_b1 hf
  obtain ⟨u, e6, hf⟩ := hf
  have hg := grd_i e6
  replace hf := evn_b2 hf
  obtain ⟨r6, σ5, e7, hf⟩ := hf
  refine mx_cq (vy_runV (As := []) (rest := []) ⟨hx, hb, hml, hown, hts⟩ (m_X7_read l G qv2 σ3 σ5 r6 e7) (cwV 0 hts (lw_V q745 q746 q747 q80 q748) rfl rfl rfl (by decide +kernel) ⟨Nat.le_of_ble_eq_true rfl, Nat.le_of_ble_eq_true rfl⟩) (mm_preV F.2.2.2.2.2 hH (ci := 7) rfl ek) rfl rfl hl.1 rfl (lv_room (Nat.le_of_ble_eq_true rfl)) dX0_run_8 hg) hH (fun qv7 H locs E ce hq hH c1 c2 c3 => ?_) (fun qv4 H locs hq hH => ?_)
  · subst hq
    rw [xs_r] at hf
    replace hf := evn_b1 hf
    obtain ⟨u, e8, hf⟩ := hf
    refine mx_catch F hH e8 htb (hts _ q726) (F.2.2.2.2.2.2.1 _ q780 rfl) (by decide) (by decide) ?_
    refine lv_astore_n (lv' := [(2, .ref qv7), (0, .ref h0)]) hx hb dX0_run_15 rfl hl (by decide) rfl (fun ls hl => ?_)
    refine lv_ldc (v := (-1000003)) hx hb hown (hts _ q555) dX0_run_16 ?_
    rw [evn_r] at hf
    obtain ⟨h1, h2⟩ := Prod.mk.inj (Option.some.inj hf)
    subst h1
    subst h2
    refine W.widen (k := 500) (n := 24000) hg.1 hg.2 ?_
    exact mm_reti F hH hr hlocks rfl rfl dX0_run_18
  · subst hq
    rw [xs_l] at hf
    refine lv_astore_n (lv' := [(1, .ref qv4), (0, .ref h0)]) hx hb dX0_run_11 rfl hl (by decide) rfl (fun ls hl => ?_)
    refine lv_goto (tgt := 19) hx hb dX0_run_12 (by decide) ?_
    refine lv_aload_n hx hb dX0_run_19 rfl (lv_at hl 1 rfl) ?_
    refine lv_iconst (v := 0) hx hb dX0_run_20 (by decide) ?_
    replace hf := evn_b1 hf
    obtain ⟨σ8, e9, hf⟩ := hf
    refine mm_put F hH mc_0 (k := 4) (v := vI (0 : Int32)) (by decide) (hts _ q193) (fun _ h => h) rfl rfl rfl e9 dX0_run_21 (fun H locs hH => ?_)
    refine lv_iconst (v := 0) hx hb dX0_run_24 (by decide) ?_
    refine lv_istore_n (lv' := [(2, .int (0 : Int32)), (1, .ref qv4), (0, .ref h0)]) hx hb dX0_run_25 rfl hl (by decide) rfl (fun ls hl => ?_)
    rw [evn_l] at hf
    exact IH26 qv4 (0 : Int32) (((0 + 1) + 1) + 330) (((0 + 3) + 3) + 12100) σ8 _ _ _ hH (lv_sub hl [2, 1, 0] rfl) hf
set_option maxHeartbeats 4000000 in
theorem l_X0_run {p : Program} {l : Launch} {e : Env} {s : State} {m : MethodId} {av : Array Value} {below : List Frame} {meth : Method} {c : Code} {G : mm_G} {σf : mm_M} {rr : Int32} {h0 : Nat} (F : mm_F p s m av c RX0 cX0_run 4 G) (hr : meth.sig.returnType = (Option.some .int)) (hlocks : meth.locks = false) (hname : meth.name = yX0_run.name) (htb : c.exceptionTable.toList = tableOf [(0, 12, 15, 235)]) : ∀ n : Nat, (∀ (a1 : Nat) (x2 : Int32) (cn cs : Nat) (σ : mm_M) (H : Heap) (locs : List Loc) (ls : Array Slot), mm_H G s σ H locs → lv_has ls 4 [(0, .ref h0), (1, .ref a1), (2, .int x2)] → itn (s_X0_run h0) n (a1, x2, cn, cs, σ) = some (rr, σf) → W p l e rm_X0_run s m av below meth c H locs cn cs (MQ below (mm_Qi G rr σf) av s 500 24000 (mm_A G)) (F0 m 26 ls [])) := by
  intro n
  induction n with
  | zero =>
    exact fun a1 x2 cn cs σ H locs ls hH hl hf => by cases hf
  | succ n ih =>
    have IH26 := ih
    intro a1 x2 cn cs σ H locs ls hH hl hf
    rw [itn_s] at hf
    exact w_X0_run_26 F hr hlocks hname htb IH26 a1 x2 cn cs σ hf hH hl
set_option maxHeartbeats 4000000 in
theorem m_X0_run (l : Launch) (G : mm_G) (h0 : Nat) (σ : mm_M) (σf : mm_M) (rr : Int32) (hf : f_X0_run h0 σ = some (rr, σf)) : Met l yX0_run (wsW_ yX0_run cX0_run 4 ((Option.some .int)) [(0, 12, 15, 235)]) rm_X0_run (mm_Pc G [.ref h0] σ) (mm_Qi G rr σf) 500 24000 (mm_A G) := by
  refine mx_metW (by decide) (by  exact Nat.le_of_ble_eq_true rfl) (fun p e s m below meth c ls F hH hr hlocks hname htb hl => ?_)
  have hl : lv_has ls 4 [(0, .ref h0)] := by  exact hl
  have F : mm_F p s m _ c RX0 cX0_run 4 G := F
  unfold f_X0_run at hf
  obtain ⟨n, hf⟩ := lgo_i hf
  have IH := l_X0_run (l := l) (e := e) (below := below) (rr := rr) (σf := σf) (h0 := h0) F hr hlocks hname htb n
  exact w_X0_run_0 F hr hlocks hname htb IH σ hf hH (lv_sub hl [0] rfl)
