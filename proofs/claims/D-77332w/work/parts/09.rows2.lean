/-! ROWS: what makes cells, copies, calls -/
set_option maxRecDepth 100000
section MS
variable {p : Program} {l : Launch} {e : Env} {R : Room} {s : State} {m : MethodId} {args : Array Value} {below : List Frame} {meth : Method} {c : Code} {H : Heap} {locs : List Loc} {cells slots : Nat} {Q : State → Prop}
variable {cc : ByteArray} {pc nL : Nat} {ls : Array Slot} {rest st0 : List Value} {own : String} {G : mm_G} {σ σ' : mm_M} {a : Nat}
/-- an object goes into an array of references -/
theorem mm_aast (F : mm_F p s m args c own cc nL G) (hH : mm_H G s σ H locs) {k v : Nat} (hk : 3 ≤ k ∧ k < 6) {i : Int32} (hv : sR σ a k i (some v) = some σ') (hdg : decode cc pc = .ok (.aastore, 1))
    (kk : ∀ (H1 : Heap) (locs1 : List Loc), mm_H G s σ' H1 locs1 → W p l e R s m args below meth c H1 locs1 cells slots Q (F0 m (pc + 1) ls rest)) : W p l e R s m args below meth c H locs cells slots Q (F0 m pc ls (.ref v :: .int i :: .ref a :: rest)) := by
  obtain ⟨n, g, h1, h2, h3, rfl⟩ := sR_i hv
  unfold okR at h3
  dsimp only at h3
  split at h3
  · rename_i o ho
    have ho' : σ.1 v = some (.inl (o.1, o.2)) := ho
    simp only [Bool.or_eq_true, Bool.and_eq_true, beq_iff_eq, decide_eq_true_eq] at h3
    rcases h3 with (⟨rfl, hc⟩ | ⟨rfl, hc⟩) | ⟨rfl, hc⟩
    · rw [hc] at ho'
      exact mm_aastC F hH (E := RX3) rfl rfl (Or.inl rfl) h1 h2 ho' hdg kk
    · rw [hc] at ho'
      exact mm_aastC F hH (E := RX1) rfl rfl (Or.inl rfl) h1 h2 ho' hdg kk
    · rcases (show o.1 = 3 ∨ o.1 = 9 ∨ o.1 = 10 ∨ o.1 = 11 ∨ o.1 = 12 ∨ o.1 = 13 ∨ o.1 = 14 by omega) with hc | hc | hc | hc | hc | hc | hc <;> rw [hc] at ho'
      · exact mm_aastC F hH (E := "java/lang/Object") rfl rfl (Or.inr q1353) h1 h2 ho' hdg kk
      · exact mm_aastC F hH (E := "java/lang/Object") rfl rfl (Or.inr q1371) h1 h2 ho' hdg kk
      · exact mm_aastC F hH (E := "java/lang/Object") rfl rfl (Or.inr q1372) h1 h2 ho' hdg kk
      · exact mm_aastC F hH (E := "java/lang/Object") rfl rfl (Or.inr q1373) h1 h2 ho' hdg kk
      · exact mm_aastC F hH (E := "java/lang/Object") rfl rfl (Or.inr q1374) h1 h2 ho' hdg kk
      · exact mm_aastC F hH (E := "java/lang/Object") rfl rfl (Or.inr q1375) h1 h2 ho' hdg kk
      · exact mm_aastC F hH (E := "java/lang/Object") rfl rfl (Or.inr q1376) h1 h2 ho' hdg kk
  · cases h3
theorem mm_aastQ (F : mm_F p s m args c own cc nL G) (hH : mm_H G s σ H locs) {k : Nat} {r : Option Nat} (hk : 3 ≤ k ∧ k < 6) {i : Int32} (hv : sR σ a k i r = some σ') (hdg : decode cc pc = .ok (.aastore, 1))
    (kk : ∀ (H1 : Heap) (locs1 : List Loc), mm_H G s σ' H1 locs1 → W p l e R s m args below meth c H1 locs1 cells slots Q (F0 m (pc + 1) ls rest)) : W p l e R s m args below meth c H locs cells slots Q (F0 m pc ls (va_rf r :: .int i :: .ref a :: rest)) := by
  cases r with
  | none => exact mm_aastN F hH hk hv hdg kk
  | some v => exact mm_aast F hH hk hv hdg kk
/-- the lists' empty array -/
theorem mm_gete (F : mm_F p s m args c own cc nL G) (hH : mm_H G s σ H locs) {index : Nat} (hlink : (Cond.fieldLink own index "java/util/ArrayList" "DEFAULTCAPACITY_EMPTY_ELEMENTDATA" "[Ljava/lang/Object;").before args s = true) (hdg : decode cc pc = .ok (.getstatic index, 3))
    (kk : W p l e R s m args below meth c H locs cells slots Q (F0 m (pc + 3) ls (.ref σ.2.2.1 :: rest))) : W p l e R s m args below meth c H locs cells slots Q (F0 m pc ls rest) := by
  rw [hH.1.2.1.2] at kk
  exact va_gets F.1 F.2.1 F.2.2.2.2.2.2.2.2.1.2.1 hH.2 F.2.2.2.1 hlink (fun _ h => h) hdg kk
theorem mm_getu (F : mm_F p s m args c own cc nL G) (hH : mm_H G s σ H locs) {index : Nat} (hlink : (Cond.fieldLink own index "java/lang/Throwable" "UNASSIGNED_STACK" "[Ljava/lang/StackTraceElement;").before args s = true) (hdg : decode cc pc = .ok (.getstatic index, 3))
    (kk : W p l e R s m args below meth c H locs cells slots Q (F0 m (pc + 3) ls (va_rf σ.2.2.2.1 :: rest))) : W p l e R s m args below meth c H locs cells slots Q (F0 m pc ls rest) := by
  rw [hH.1.2.1.2] at kk
  exact va_gets F.1 F.2.1 F.2.2.2.2.2.2.2.2.1.2.2.1 hH.2 F.2.2.2.1 hlink (fun _ h => h) hdg kk
theorem mm_getp (F : mm_F p s m args c own cc nL G) (hH : mm_H G s σ H locs) {index : Nat} (hlink : (Cond.fieldLink own index "java/lang/Throwable" "SUPPRESSED_SENTINEL" "Ljava/util/List;").before args s = true) (hdg : decode cc pc = .ok (.getstatic index, 3))
    (kk : W p l e R s m args below meth c H locs cells slots Q (F0 m (pc + 3) ls (va_rf σ.2.2.2.2 :: rest))) : W p l e R s m args below meth c H locs cells slots Q (F0 m pc ls rest) := by
  rw [hH.1.2.1.2] at kk
  exact va_gets F.1 F.2.1 F.2.2.2.2.2.2.2.2.1.2.2.2 hH.2 F.2.2.2.1 hlink (fun _ h => h) hdg kk
theorem mm_fitR (r : Option Nat) {ty : FieldType} (h : fits ty .null = true ∧ ∀ a, fits ty (.ref a) = true) : fits ty (mm_pv (vR r)) = true := by
  cases r with
  | none => exact h.1
  | some a => exact h.2 a
/-- getClass of an array of objects -/
theorem mm_getC (F : mm_F p s m args c own cc nL G) (hH : mm_H G s σ H locs) (hml : c.maxLocals = ls.size) {index : Nat} (hlink : (Cond.methodLink own index ⟨"java/lang/Object", "getClass", "()Ljava/lang/Class;"⟩).before args s = true)
    (hsel : (Cond.selects "[Ljava/lang/Object;" ⟨"java/lang/Object", "getClass", "()Ljava/lang/Class;"⟩ ⟨"java/lang/Object", "getClass", "()Ljava/lang/Class;"⟩).before args s = true) (hinst : (Cond.instanceMethod ⟨"java/lang/Object", "getClass", "()Ljava/lang/Class;"⟩).before args s = true) (hnat : (Cond.native ⟨"java/lang/Object", "getClass", "()Ljava/lang/Class;"⟩).before args s = true) (hframes : 1 ≤ R.frames) (hlocals : (rest.map fun v => v.category).sum + 14 ≤ R.locals) {u : Unit} (hv : ckQ σ a = some u) (hdg : decode cc pc = .ok (.invokevirtual index, 3))
    (kk : W p l e R s m args below meth c H locs cells slots Q (F0 m (pc + 3) ls (.ref G.2.2.2.2.2 :: rest))) : W p l e R s m args below meth c H locs cells slots Q (F0 m pc ls (.ref a :: rest)) := by
  obtain ⟨n, g, hn9, h1⟩ := ckQ_i hv
  refine va_getC (C := "[Ljava/lang/Object;") F.1 F.2.1 hml F.2.2.2.1 hlink (va_Dc.use F.2.2.2.2.2.2.2.2.2.1.2) hsel hinst hnat F.2.2.2.2.2.2.2.2.2.1.1 ⟨_, hH.1.at h1 hn9 0 _ rfl, rfl, ?_⟩ hframes hlocals hdg kk
  exact va_nmO (F.2.2.2.2.2.1.2 5 _ rfl).2 rfl
theorem mm_cast (F : mm_F p s m args c own cc nL G) (hH : mm_H G s σ H locs) {ci index : Nat} {C : String} {T : u_T} {N : Nat} {ty : Nat → FieldType} {df : List mm_V} (hC : mm_C ci C T N ty df) (hlink : (Cond.classLink own index C).before args s = true) {u : Unit} (hv : ck σ a ci = some u) (hdg : decode cc pc = .ok (.checkcast index, 3))
    (kk : W p l e R s m args below meth c H locs cells slots Q (F0 m (pc + 3) ls (.ref a :: rest))) : W p l e R s m args below meth c H locs cells slots Q (F0 m pc ls (.ref a :: rest)) := by
  obtain ⟨fs, h1⟩ := ck_i hv
  exact va_castS F.1 F.2.1 F.2.2.2.1 hlink (F.2.2.2.2.2.1.1 ci _ hC.1).2 (va_recv F.2.2.2.2.2.1 (hH.1.at h1) hC.1 (q0 := 0) rfl) hdg kk
theorem mm_castC (F : mm_F p s m args c own cc nL G) (hH : mm_H G s σ H locs) {index : Nat} (hlink : (Cond.classLink own index "IslandHeap$Command").before args s = true) {u : Unit} (hv : ckC σ a = some u) (hdg : decode cc pc = .ok (.checkcast index, 3))
    (kk : W p l e R s m args below meth c H locs cells slots Q (F0 m (pc + 3) ls (.ref a :: rest))) : W p l e R s m args below meth c H locs cells slots Q (F0 m pc ls (.ref a :: rest)) := by
  obtain ⟨k, fs, hk, h1⟩ := ckC_i hv
  have key : ∀ (q : vw_C), mm_cl[k]? = some q → va_Nw (.castable q.1 "IslandHeap$Command") s → W p l e R s m args below meth c H locs cells slots Q (F0 m pc ls (.ref a :: rest)) := fun q hq hc => va_castY F.1 F.2.1 F.2.2.2.1 hlink hc (va_recv F.2.2.2.2.2.1 (hH.1.at h1) hq (q0 := 0) rfl) hdg kk
  have fw := F.2.2.2.2.2.2.2.2.2.2
  rcases (show k = 9 ∨ k = 10 ∨ k = 11 ∨ k = 12 ∨ k = 13 ∨ k = 14 by omega) with rfl | rfl | rfl | rfl | rfl | rfl
  · exact key _ rfl fw.1.2.2.2.2
  · exact key _ rfl fw.2.1.2.2.2.2
  · exact key _ rfl fw.2.2.1.2.2.2.2
  · exact key _ rfl fw.2.2.2.1.2.2.2.2
  · exact key _ rfl fw.2.2.2.2.1.2.2.2.2
  · exact key _ rfl fw.2.2.2.2.2.2.2.2.2
/-- new -/
theorem mm_new (F : mm_F p s m args c own cc nL G) (hH : mm_H G s σ H locs) {C : String} {T : u_T} {N ci index q : Nat} {ty : Nat → FieldType} {df : List mm_V} (hC : mm_C ci C T N ty df) (hcl : (Cond.classLink own index C).before args s = true) (hinst : (Cond.instantiable C N).before args s = true) (hini : (Cond.initialized C).before args s = true) (hcells : cells + 1 ≤ R.cells) (hslots : slots + N ≤ R.slots) (hv : nO σ ci df = some (q, σ')) (hdg : decode cc pc = .ok (.new index, 3))
    (kk : ∀ H1 : Heap, mm_H G s σ' H1 locs → W p l e R s m args below meth c H1 locs (cells + 1) (slots + N) Q (F0 m (pc + 3) ls (.ref q :: rest))) : W p l e R s m args below meth c H locs cells slots Q (F0 m pc ls rest) := by
  obtain ⟨rfl, rfl⟩ := nO_i hv
  have hKn := F.2.2.2.2.2.1.1 ci _ hC.1
  refine W.newcK F.1 F.2.1 F.2.2.2.1 hcl hinst hini rfl hdg hcells hslots hKn.2.1 hH.1.1 fun H1 kC hkC e1 z1 o1 => ?_
  refine kk H1 (hH.new ⟨_, hC.1, ?_⟩ z1 (fun q hq => o1 q hq))
  exact (u_born ty F.2.2.2.2.1 hC.2.1 hKn hkC e1 hC.2.2.1).to hC.2.2.2.2
theorem mm_clamp {n : Int32} {lim : Nat} (h : 0 ≤ n.toInt ∧ n.toInt ≤ lim) : ¬ n < 0 ∧ n.toNatClampNeg ≤ lim := by
  refine ⟨fun q => ?_, ?_⟩
  · have h1 := Int32.lt_iff_toInt_lt.mp q
    rw [Int32.toInt_zero] at h1
    omega
  · show n.toInt.toNat ≤ lim
    omega
theorem mm_newaI (F : mm_F p s m args c own cc nL G) (hH : mm_H G s σ H locs) {q lim : Nat} {n : Int32} (harr : (Cond.arrayClass .int).before args s = true) (hcells : cells + 1 ≤ R.cells) (hslots : slots + lim ≤ R.slots) (hlim : lim ≤ 10000) (hv : nA σ 0 n lim = some (q, σ')) (hdg : decode cc pc = .ok (.newarray .int, 2))
    (kk : ∀ H1 : Heap, mm_H G s σ' H1 locs → W p l e R s m args below meth c H1 locs (cells + 1) (slots + lim) Q (F0 m (pc + 2) ls (.ref q :: rest))) : W p l e R s m args below meth c H locs cells slots Q (F0 m pc ls (.int n :: rest)) := by
  obtain ⟨h1, rfl, rfl⟩ := nA_i hv
  obtain ⟨c1, c2⟩ := mm_clamp h1
  refine va_newaK (atype := .int) F.1 F.2.1 harr rfl hdg rfl c1 rfl (by show n.toNatClampNeg * 4 ≤ _; omega) hcells (by omega) hH.1.1 fun H1 cA e1 z1 o1 hAr hNm => ?_
  refine W.widen (Nat.le_refl _) (show slots + n.toNatClampNeg ≤ slots + lim by omega) (kk H1 (hH.new ?_ z1 o1))
  have hcA : cA = G.2.1 0 := Option.some.inj (hNm.symm.trans (F.2.2.2.2.2.1.2 0 _ rfl).2)
  subst hcA
  exact e1
theorem mm_newaZ (F : mm_F p s m args c own cc nL G) (hH : mm_H G s σ H locs) {q lim : Nat} {n : Int32} (harr : (Cond.arrayClass .boolean).before args s = true) (hcells : cells + 1 ≤ R.cells) (hslots : slots + lim ≤ R.slots) (hlim : lim ≤ 10000) (hv : nA σ 1 n lim = some (q, σ')) (hdg : decode cc pc = .ok (.newarray .boolean, 2))
    (kk : ∀ H1 : Heap, mm_H G s σ' H1 locs → W p l e R s m args below meth c H1 locs (cells + 1) (slots + lim) Q (F0 m (pc + 2) ls (.ref q :: rest))) : W p l e R s m args below meth c H locs cells slots Q (F0 m pc ls (.int n :: rest)) := by
  obtain ⟨h1, rfl, rfl⟩ := nA_i hv
  obtain ⟨c1, c2⟩ := mm_clamp h1
  refine va_newaK (atype := .boolean) F.1 F.2.1 harr rfl hdg rfl c1 rfl (by show n.toNatClampNeg * 1 ≤ _; omega) hcells (by omega) hH.1.1 fun H1 cA e1 z1 o1 hAr hNm => ?_
  refine W.widen (Nat.le_refl _) (show slots + n.toNatClampNeg ≤ slots + lim by omega) (kk H1 (hH.new ?_ z1 o1))
  have hcA : cA = G.2.1 1 := Option.some.inj (hNm.symm.trans (F.2.2.2.2.2.1.2 1 _ rfl).2)
  subst hcA
  exact e1
theorem mm_newaB (F : mm_F p s m args c own cc nL G) (hH : mm_H G s σ H locs) {q lim : Nat} {n : Int32} (harr : (Cond.arrayClass .byte).before args s = true) (hcells : cells + 1 ≤ R.cells) (hslots : slots + lim ≤ R.slots) (hlim : lim ≤ 10000) (hv : nA σ 2 n lim = some (q, σ')) (hdg : decode cc pc = .ok (.newarray .byte, 2))
    (kk : ∀ H1 : Heap, mm_H G s σ' H1 locs → W p l e R s m args below meth c H1 locs (cells + 1) (slots + lim) Q (F0 m (pc + 2) ls (.ref q :: rest))) : W p l e R s m args below meth c H locs cells slots Q (F0 m pc ls (.int n :: rest)) := by
  obtain ⟨h1, rfl, rfl⟩ := nA_i hv
  obtain ⟨c1, c2⟩ := mm_clamp h1
  refine va_newaK (atype := .byte) F.1 F.2.1 harr rfl hdg rfl c1 rfl (by show n.toNatClampNeg * 1 ≤ _; omega) hcells (by omega) hH.1.1 fun H1 cA e1 z1 o1 hAr hNm => ?_
  refine W.widen (Nat.le_refl _) (show slots + n.toNatClampNeg ≤ slots + lim by omega) (kk H1 (hH.new ?_ z1 o1))
  have hcA : cA = G.2.1 2 := Option.some.inj (hNm.symm.trans (F.2.2.2.2.2.1.2 2 _ rfl).2)
  subst hcA
  exact e1
/-- an array of references -/
theorem mm_newq (F : mm_F p s m args c own cc nL G) (hH : mm_H G s σ H locs) {k q lim index : Nat} {C : String} {n : Int32} (hE : (mm_tys G)[k]? = some (G.2.1 k, .object C)) (hover : va_AO C s) (hcl : (Cond.classLink own index C).before args s = true) (hcells : cells + 1 ≤ R.cells) (hslots : slots + lim ≤ R.slots) (hlim : lim ≤ 10000) (hv : nQ σ k n lim = some (q, σ')) (hdg : decode cc pc = .ok (.anewarray index, 3))
    (kk : ∀ H1 : Heap, mm_H G s σ' H1 locs → W p l e R s m args below meth c H1 locs (cells + 1) (slots + lim) Q (F0 m (pc + 3) ls (.ref q :: rest))) : W p l e R s m args below meth c H locs cells slots Q (F0 m pc ls (.int n :: rest)) := by
  obtain ⟨h1, rfl, rfl⟩ := nQ_i hv
  obtain ⟨c1, c2⟩ := mm_clamp h1
  refine W.anew F.1 F.2.1 F.2.2.2.1 hcl (va_AO.use hover) rfl hdg rfl c1 (by omega) hcells (by omega) fun cA kA comp f1 f2 f3 f4 => ?_
  have hz := hH.1.1
  generalize hH1 : H.push ({ cls := cA, slots := Array.replicate n.toNatClampNeg .null, vm := .none } : Cell) = H1
  have z1 : H1.size = H.size + 1 := by rw [← hH1, Array.size_push]
  have e1 : H1[H.size]? = some (arrV cA n.toNatClampNeg (fun _ => .null)) := by rw [← hH1, Array.getElem?_push_size, ← arrV_new]
  have o1 : ∀ q : Nat, q < H.size → H1[q]? = H[q]? := fun q hq => by rw [← hH1, Array.getElem?_push, if_neg (Nat.ne_of_lt hq)]
  rw [hz] at z1 e1 o1 ⊢
  refine W.widen (Nat.le_refl _) (show slots + n.toNatClampNeg ≤ slots + lim by omega) (kk H1 (hH.new ?_ z1 o1))
  obtain ⟨-, -, -, -, -, hNm⟩ := mm_nm F.2.2.2.2.2 hE
  have hcA : cA = G.2.1 k := Option.some.inj (f1.symm.trans hNm)
  subst hcA
  exact e1
theorem mm_neg {n : Int32} (h : 0 ≤ n.toInt) : ¬ n < 0 ∧ n.toInt = (n.toNatClampNeg : Int) := by
  refine ⟨fun q => ?_, ?_⟩
  · have h1 := Int32.lt_iff_toInt_lt.mp q
    rw [Int32.toInt_zero] at h1
    omega
  · show n.toInt = ((n.toInt.toNat : Nat) : Int)
    omega
/-- System.arraycopy of ints -/
theorem mm_copyI (F : mm_F p s m args c own cc nL G) (hH : mm_H G s σ H locs) (hml : c.maxLocals = ls.size) {index a0 : Nat} {sp dp n : Int32} (hlink : (Cond.methodLink own index arraycopyName).before args s = true) (hnat : (Cond.native arraycopyName).before args s = true) (hstat : (Cond.static arraycopyName).before args s = true) (hini : (Cond.initialized "java/lang/System").before args s = true) (hframes : 1 ≤ R.frames) (hlocals : (rest.map fun v => v.category).sum + (nativeFrameWords "java/lang/System" "arraycopy" 5 + 11) ≤ R.locals) (hv : cI σ a0 sp a dp n = some σ') (hdg : decode cc pc = .ok (.invokestatic index, 3))
    (kk : ∀ (H1 : Heap) (locs1 : List Loc), mm_H G s σ' H1 locs1 → W p l e R s m args below meth c H1 locs1 cells slots Q (F0 m (pc + 3) ls rest)) : W p l e R s m args below meth c H locs cells slots Q (F0 m pc ls (.int n :: .int dp :: .ref a :: .int sp :: .ref a0 :: rest)) := by
  obtain ⟨n0, f, n1, g, hf, hg, g1, g2, g3, g4, g5, rfl⟩ := cI_i hv
  obtain ⟨h1, e1⟩ := mm_neg g1
  obtain ⟨h2, e2⟩ := mm_neg g2
  obtain ⟨h3, e3⟩ := mm_neg g3
  have h4 : sp.toNatClampNeg + n.toNatClampNeg ≤ n0 := by omega
  have h5 : dp.toNatClampNeg + n.toNatClampNeg ≤ n1 := by omega
  intro T hT X
  have hc0 : H[a0]? = some (vp_cell (G.2.1 0) (n0, .inl f)) := (hH.1.2.2 a0 _ hf).1
  have hc1 : H[a]? = some (vp_cell (G.2.1 0) (n1, .inl g)) := (hH.1.2.2 a _ hg).1
  have hArr := (F.2.2.2.2.2.1.2 0 _ rfl).1
  obtain ⟨-, k0, hk0, cm0, hkk0⟩ := hArr n0 (fun j => .int (f j))
  obtain ⟨-, k1, hk1, cm1, hkk1⟩ := hArr n1 (fun j => .int (g j))
  obtain ⟨vm', X', step⟩ := X.arraycopy F.1 F.2.2.2.1 hlink hnat hstat hini (src := a0) (dst := a) (cs := vp_cell (G.2.1 0) (n0, .inl f)) (cd := vp_cell (G.2.1 0) (n1, .inl g)) (srcPos := sp) (destPos := dp) (n := n) (by rw [hT]; exact hc0) (by rw [hT]; exact hc1)
    (fun _ h => by cases h) (fun _ h => by cases h) (fun h => by cases h) (fun h => by cases h) hk0 hk1 hkk0 hkk1 (by rfl) h1 h2 h3
    (by rw [e1, e3]; show ¬ _ > ((arrV (G.2.1 0) n0 (fun j => .int (f j))).slots.size : Int); rw [arrV_size]; omega)
    (by rw [e2, e3]; show ¬ _ > ((arrV (G.2.1 0) n1 (fun j => .int (g j))).slots.size : Int); rw [arrV_size]; omega)
    (fun vm₁ _ i hi => by
      have e : (vp_cell (G.2.1 0) (n0, .inl f)).slots.getD (sp.toNatClampNeg + i) .null = .int (f (sp.toNatClampNeg + i)) := by
        show (arrV (G.2.1 0) n0 (fun j => .int (f j))).slots.getD _ _ = _
        rw [Array.getD_eq_getD_getElem?, arrV_read _ _ (by omega)]
        rfl
      refine ⟨?_, ?_⟩
      · rw [e]
        rfl
      · rw [e]
        exact trivial)
    (g := F0 m pc ls (.int n :: .int dp :: .ref a :: .int sp :: .ref a0 :: rest)) rfl (by rw [hml]) (rest := rest) rfl (by rw [F.2.1]; exact hdg) hframes (by show 2 * 0 + _ + _ ≤ _; omega)
  have e9 : copied (vp_cell (G.2.1 0) (n0, .inl f)) (vp_cell (G.2.1 0) (n1, .inl g)) sp dp n = vp_cell (G.2.1 0) (n1, .inl (va_cpy f g sp.toNatClampNeg dp.toNatClampNeg n.toNatClampNeg)) := va_copied (fun z => .int z) (G.2.1 0) (G.2.1 0) f g h4
  rw [e9] at X' step
  have hl : a < H.size := (Array.getElem?_eq_some_iff.mp hc1).1
  have hheap : ((T.setVm vm').setCell a (vp_cell (G.2.1 0) (n1, .inl (va_cpy f g sp.toNatClampNeg dp.toNatClampNeg n.toNatClampNeg)))).heap = H.setIfInBounds a (vp_cell (G.2.1 0) (n1, .inl (va_cpy f g sp.toNatClampNeg dp.toNatClampNeg n.toNatClampNeg))) := by rw [← hT]; rfl
  have oq : ∀ q : Nat, q ≠ a → (H.setIfInBounds a (vp_cell (G.2.1 0) (n1, .inl (va_cpy f g sp.toNatClampNeg dp.toNatClampNeg n.toNatClampNeg))))[q]? = H[q]? := fun q hq => by simp [Array.getElem?_setIfInBounds, Ne.symm hq]
  obtain ⟨t, a1, b1⟩ := kk _ _ (hH.set (e := .inr (.inl (0, n1, va_cpy f g sp.toNatClampNeg dp.toNatClampNeg n.toNatClampNeg))) (mm_own hH.1 hg) (show (H.setIfInBounds a _)[a]? = some _ by simp [Array.getElem?_setIfInBounds, hl]) (by simp) oq (fun x hx => by
      obtain ⟨z, -, hz⟩ := List.mem_map.mp hx
      rw [← hz])) _ hheap X'
  exact ⟨t, step t a1, b1⟩
/-- of references -/
theorem mm_copyR (F : mm_F p s m args c own cc nL G) (hH : mm_H G s σ H locs) (hml : c.maxLocals = ls.size) {index a0 : Nat} {sp dp n : Int32} (hlink : (Cond.methodLink own index arraycopyName).before args s = true) (hnat : (Cond.native arraycopyName).before args s = true) (hstat : (Cond.static arraycopyName).before args s = true) (hini : (Cond.initialized "java/lang/System").before args s = true) (hframes : 1 ≤ R.frames) (hlocals : (rest.map fun v => v.category).sum + (nativeFrameWords "java/lang/System" "arraycopy" 5 + 11) ≤ R.locals) (hv : cR σ a0 sp a dp n = some σ') (hdg : decode cc pc = .ok (.invokestatic index, 3))
    (kk : ∀ (H1 : Heap) (locs1 : List Loc), mm_H G s σ' H1 locs1 → W p l e R s m args below meth c H1 locs1 cells slots Q (F0 m (pc + 3) ls rest)) : W p l e R s m args below meth c H locs cells slots Q (F0 m pc ls (.int n :: .int dp :: .ref a :: .int sp :: .ref a0 :: rest)) := by
  obtain ⟨n0, f, n1, g, hf, hg, g00, g0, g1, g2, g3, g4, g5, g6, rfl⟩ := cR_i hv
  obtain ⟨h1, e1⟩ := mm_neg g1
  obtain ⟨h2, e2⟩ := mm_neg g2
  obtain ⟨h3, e3⟩ := mm_neg g3
  have h4 : sp.toNatClampNeg + n.toNatClampNeg ≤ n0 := by omega
  have h5 : dp.toNatClampNeg + n.toNatClampNeg ≤ n1 := by omega
  have hel : ∀ i : Nat, i < n.toNatClampNeg → ∀ y : Nat, f (sp.toNatClampNeg + i) = some y → ∃ cellV : Cell, H[y]? = some cellV ∧ cellV.vm = .none ∧ ∃ ci q, mm_cl[ci]? = some q ∧ cellV.cls = G.1.1 ci ∧ Cond.castable q.1 "java/lang/Object" ∈ lw_tbl := by
    intro i hi y hy
    have h6 := g6 i hi
    rw [hy] at h6
    unfold okR at h6
    dsimp only at h6
    split at h6
    · rename_i o ho
      have ho' : σ.1 y = some (.inl (o.1, o.2)) := ho
      obtain ⟨r', hr', cellV, q1, q2, q3, -⟩ := (hH.1.2.2 y _ ho').1
      have hr2 : mm_cl[o.1]? = some r' := hr'
      simp only [Bool.or_eq_true, Bool.and_eq_true, beq_iff_eq, decide_eq_true_eq] at h6
      refine ⟨cellV, q1, q3, o.1, r', hr2, q2, ?_⟩
      rcases (show o.1 = 3 ∨ o.1 = 9 ∨ o.1 = 10 ∨ o.1 = 11 ∨ o.1 = 12 ∨ o.1 = 13 ∨ o.1 = 14 by omega) with hc | hc | hc | hc | hc | hc | hc <;> rw [hc] at hr2 <;> cases hr2
      · exact q1353
      · exact q1371
      · exact q1372
      · exact q1373
      · exact q1374
      · exact q1375
      · exact q1376
    · cases h6
  intro T hT X
  have hc0 : H[a0]? = some (vp_cell (G.2.1 5) (n0, .inr (.inr (.inr (.inr f))))) := hH.1.at hf (show ¬ n0 = 0 by omega) 0 _ rfl
  have hc1 : H[a]? = some (vp_cell (G.2.1 5) (n1, .inr (.inr (.inr (.inr g))))) := hH.1.at hg (show ¬ n1 = 0 by omega) 0 _ rfl
  have hArr := (F.2.2.2.2.2.1.2 5 _ rfl).1
  obtain ⟨-, k0, hk0, cm0, hkk0⟩ := hArr n0 (fun j => va_rf (f j))
  obtain ⟨-, k1, hk1, cm1, hkk1⟩ := hArr n1 (fun j => va_rf (g j))
  obtain ⟨vm', X', step⟩ := X.arraycopy F.1 F.2.2.2.1 hlink hnat hstat hini (src := a0) (dst := a) (cs := vp_cell (G.2.1 5) (n0, .inr (.inr (.inr (.inr f))))) (cd := vp_cell (G.2.1 5) (n1, .inr (.inr (.inr (.inr g))))) (srcPos := sp) (destPos := dp) (n := n) (by rw [hT]; exact hc0) (by rw [hT]; exact hc1)
    (fun _ h => by cases h) (fun _ h => by cases h) (fun h => by cases h) (fun h => by cases h) hk0 hk1 hkk0 hkk1 rfl h1 h2 h3
    (by rw [e1, e3]; show ¬ _ > ((arrV (G.2.1 5) n0 (fun j => va_rf (f j))).slots.size : Int); rw [arrV_size]; omega)
    (by rw [e2, e3]; show ¬ _ > ((arrV (G.2.1 5) n1 (fun j => va_rf (g j))).slots.size : Int); rw [arrV_size]; omega)
    (fun vm₁ hal i hi => by
      have e : (vp_cell (G.2.1 5) (n0, .inr (.inr (.inr (.inr f))))).slots.getD (sp.toNatClampNeg + i) .null = va_rf (f (sp.toNatClampNeg + i)) := by
        show (arrV (G.2.1 5) n0 (fun j => va_rf (f j))).slots.getD _ _ = _
        rw [Array.getD_eq_getD_getElem?, arrV_read _ _ (by omega)]
        rfl
      rw [e]
      cases hy : f (sp.toNatClampNeg + i) with
      | none => exact ⟨rfl, trivial⟩
      | some y =>
        obtain ⟨cellV, q1, q2, ci, qc, q3, q4, q5⟩ := hel i hi y hy
        obtain ⟨kA, comp, r1, r2, r3, -⟩ := mm_nm F.2.2.2.2.2 (k := 5) rfl
        cases hk1.symm.trans r1
        cases hkk1.symm.trans r2
        have hcls := (F.2.2.2.2.2.1.1 ci qc q3).2
        obtain ⟨c3, t3, w1, w2, w3⟩ := Cond.castable_spec (va_Nw.use (A := args) rfl (F.2.2.2.2.2.2.1 _ q5 rfl))
        have y1 : c3 = cellV.cls := by rw [q4]; exact Option.some.inj (w1.symm.trans hcls.1)
        have y2 := Option.some.inj (w2.symm.trans r3)
        obtain ⟨kC, hkC, -⟩ := Vm.findClass_spec w1
        obtain ⟨kE, hkE, -⟩ := Vm.findClass_spec r3
        rw [y1] at hkC w3
        rw [y2] at w3
        obtain ⟨kC', hkC', -⟩ := hal.2.2 _ _ hkC
        obtain ⟨kE', hkE', -⟩ := hal.2.2 _ _ hkE
        refine ⟨rfl, cellV, (show T.heap[y]? = some cellV by rw [hT]; exact q1), (fun q h => by rw [h] at q2; cases q2), ⟨kC', hkC'⟩, ?_, ?_⟩
        · exact ⟨kE', hkE'⟩
        · show vm₁.assignable _ _ = true
          rw [hal.assignable]
          exact w3)
    (g := F0 m pc ls (.int n :: .int dp :: .ref a :: .int sp :: .ref a0 :: rest)) rfl (by rw [hml]) (rest := rest) rfl (by rw [F.2.1]; exact hdg) hframes (by show 2 * 0 + _ + _ ≤ _; omega)
  have e9 : copied (vp_cell (G.2.1 5) (n0, .inr (.inr (.inr (.inr f))))) (vp_cell (G.2.1 5) (n1, .inr (.inr (.inr (.inr g))))) sp dp n = vp_cell (G.2.1 5) (n1, .inr (.inr (.inr (.inr (va_cpy f g sp.toNatClampNeg dp.toNatClampNeg n.toNatClampNeg))))) := by
    rw [vp_cell_q, vp_cell_q, vp_cell_q]
    exact va_copied (fun z => va_rf z) (G.2.1 5) (G.2.1 5) f g h4
  rw [e9] at X' step
  have hl : a < H.size := (Array.getElem?_eq_some_iff.mp hc1).1
  have hheap : ((T.setVm vm').setCell a (vp_cell (G.2.1 5) (n1, .inr (.inr (.inr (.inr (va_cpy f g sp.toNatClampNeg dp.toNatClampNeg n.toNatClampNeg))))))).heap = H.setIfInBounds a (vp_cell (G.2.1 5) (n1, .inr (.inr (.inr (.inr (va_cpy f g sp.toNatClampNeg dp.toNatClampNeg n.toNatClampNeg)))))) := by rw [← hT]; rfl
  have oq : ∀ q : Nat, q ≠ a → (H.setIfInBounds a (vp_cell (G.2.1 5) (n1, .inr (.inr (.inr (.inr (va_cpy f g sp.toNatClampNeg dp.toNatClampNeg n.toNatClampNeg)))))))[q]? = H[q]? := fun q hq => by simp [Array.getElem?_setIfInBounds, Ne.symm hq]
  obtain ⟨t, a1, b1⟩ := kk _ _ (hH.set (e := .inr (.inr (5, n1, va_cpy f g sp.toNatClampNeg dp.toNatClampNeg n.toNatClampNeg))) (mm_ownR hH.1 hg (by omega)) (show (H.setIfInBounds a _)[a]? = some _ by simp [Array.getElem?_setIfInBounds, hl]) (by simp) oq (fun x hx => by
      obtain ⟨z, -, hz⟩ := List.mem_map.mp hx
      rw [← hz])) _ hheap X'
  exact ⟨t, step t a1, b1⟩
/-- behind calls -/
theorem mm_ci {mc ms : Nat} {r : Int32} {av : Array Value} (hr : va_Run p l e R s m args below meth c H locs cells slots mc ms (F0 m pc ls st0) rest (mm_Qi G r σ' av) (mm_A G)) (hH : mm_H G s σ H locs)
    (kk : ∀ (H1 : Heap) (locs1 : List Loc), mm_H G s σ' H1 locs1 → W p l e R s m args below meth c H1 locs1 (cells + mc) (slots + ms) Q (F0 m (pc + 3) ls (.int r :: rest))) : W p l e R s m args below meth c H locs cells slots Q (F0 m pc ls st0) := by
  refine va_calli hr hH.2 (fun q _ h => h) (fun q h => h) (fun r' u t H1 locs1 ht hvm hw hB hz hk hS => ?_)
  have hw : r' = r := hw
  subst hw
  exact kk H1 locs1 ⟨by rw [← ht]; exact hB, hS⟩
theorem mm_cl_ {mc ms : Nat} {r : Int64} {av : Array Value} (hr : va_Run p l e R s m args below meth c H locs cells slots mc ms (F0 m pc ls st0) rest (mm_Ql G r σ' av) (mm_A G)) (hH : mm_H G s σ H locs)
    (kk : ∀ (H1 : Heap) (locs1 : List Loc), mm_H G s σ' H1 locs1 → W p l e R s m args below meth c H1 locs1 (cells + mc) (slots + ms) Q (F0 m (pc + 3) ls (.long r :: rest))) : W p l e R s m args below meth c H locs cells slots Q (F0 m pc ls st0) := by
  refine va_calll hr hH.2 (fun q _ h => h) (fun q h => h) (fun r' u t H1 locs1 ht hvm hw hB hz hk hS => ?_)
  have hw : r' = r := hw
  subst hw
  exact kk H1 locs1 ⟨by rw [← ht]; exact hB, hS⟩
theorem mm_cq {mc ms : Nat} {r : Option Nat} {av : Array Value} (hr : va_Run p l e R s m args below meth c H locs cells slots mc ms (F0 m pc ls st0) rest (mm_Qq G r σ' av) (mm_A G)) (hH : mm_H G s σ H locs)
    (kk : ∀ (H1 : Heap) (locs1 : List Loc), mm_H G s σ' H1 locs1 → W p l e R s m args below meth c H1 locs1 (cells + mc) (slots + ms) Q (F0 m (pc + 3) ls (va_rf r :: rest))) : W p l e R s m args below meth c H locs cells slots Q (F0 m pc ls st0) := by
  refine va_callq hr hH.2 (fun q _ h => h) (fun q h => h) (fun r' u t H1 locs1 ht hvm hw hB hz hk hS => ?_)
  have hw : r' = r := hw
  subst hw
  exact kk H1 locs1 ⟨by rw [← ht]; exact hB, hS⟩
theorem mm_cv {mc ms : Nat} {av : Array Value} (hr : va_Run p l e R s m args below meth c H locs cells slots mc ms (F0 m pc ls st0) rest (mm_Qv G σ' av) (mm_A G)) (hH : mm_H G s σ H locs)
    (kk : ∀ (H1 : Heap) (locs1 : List Loc), mm_H G s σ' H1 locs1 → W p l e R s m args below meth c H1 locs1 (cells + mc) (slots + ms) Q (F0 m (pc + 3) ls rest)) : W p l e R s m args below meth c H locs cells slots Q (F0 m pc ls st0) := by
  refine va_callv hr hH.2 (fun q _ h => h) (fun q h => h) (fun u t H1 locs1 ht hvm hw hB hz hk hS => ?_)
  exact kk H1 locs1 ⟨by rw [← ht]; exact hB, hS⟩
/-- ends -/
theorem mm_reti (F : mm_F p s m args c own cc nL G) (hH : mm_H G s σ H locs) {ty : FieldType} {v r : Int32} (hr : meth.sig.returnType = some ty) (hlocks : meth.locks = false) (hn : narrow ty (.int v) = .int v) (hv : v = r) (hdg : decode cc pc = .ok (.ireturn, 1)) : W p l e R s m args below meth c H locs cells slots (MQ below (mm_Qi G r σ) args s cells slots (mm_A G)) (F0 m pc ls [.int v]) :=
  W.zret F.1 F.2.1 hr hn (fun t ht _ => ⟨⟨v, (), rfl, hv, (show mm_P G σ t.heap by rw [ht]; exact hH.1)⟩, hH.2.F ht⟩) hH.2.2.2 hdg hlocks
theorem mm_retl (F : mm_F p s m args c own cc nL G) (hH : mm_H G s σ H locs) {v r : Int64} (hr : meth.sig.returnType = some .long) (hlocks : meth.locks = false) (hv : v = r) (hdg : decode cc pc = .ok (.lreturn, 1)) : W p l e R s m args below meth c H locs cells slots (MQ below (mm_Ql G r σ) args s cells slots (mm_A G)) (F0 m pc ls [.long v]) :=
  W.lret F.1 F.2.1 hr (fun t ht _ => ⟨⟨v, (), rfl, hv, (show mm_P G σ t.heap by rw [ht]; exact hH.1)⟩, hH.2.F ht⟩) hH.2.2.2 hdg hlocks
theorem mm_retq (F : mm_F p s m args c own cc nL G) (hH : mm_H G s σ H locs) {rt : FieldType} {v r : Option Nat} (hr : meth.sig.returnType = some rt) (hlocks : meth.locks = false) (hrt : (∃ n, rt = .object n) ∨ ∃ t, rt = .array t) (hv : v = r) (hdg : decode cc pc = .ok (.areturn, 1)) : W p l e R s m args below meth c H locs cells slots (MQ below (mm_Qq G r σ) args s cells slots (mm_A G)) (F0 m pc ls [va_rf v]) :=
  W.aret F.1 F.2.1 hr hrt (va_rf_or v) (fun t ht _ => ⟨⟨v, (), rfl, hv, (show mm_P G σ t.heap by rw [ht]; exact hH.1)⟩, hH.2.F ht⟩) hH.2.2.2 hdg hlocks
theorem mm_retv (F : mm_F p s m args c own cc nL G) (hH : mm_H G s σ H locs) (hr : meth.sig.returnType = none) (hlocks : meth.locks = false) (hdg : decode cc pc = .ok (.return_, 1)) : W p l e R s m args below meth c H locs cells slots (MQ below (mm_Qv G σ) args s cells slots (mm_A G)) (F0 m pc ls []) :=
  W.vret F.1 F.2.1 hr (fun t ht _ => ⟨⟨(), rfl, trivial, (show mm_P G σ t.heap by rw [ht]; exact hH.1)⟩, hH.2.F ht⟩) hH.2.2.2 hdg hlocks
/-- a method's start -/
theorem mm_met {l : Launch} {y : MethodName} {rm : Room} {av : List Value} {σ : mm_M} {Qc : Array Value → State → Outcome → State → Prop} {mc ms : Nat} {cc : ByteArray} {maxL : Nat} {ret : Option FieldType} {G : mm_G} (hy : plainName y.cls = true) (hrc : rm.cells = mc) (hrs : rm.slots = ms) (hL : (lg_sl av).length ≤ maxL)
    (body : ∀ (p : Program) (e : Env) (s : State) (m : MethodId) (below : List Frame) (meth : Method) (c : Code) (ls : Array Slot), mm_F p s m av.toArray c y.cls cc maxL G → mm_H G s σ s.heap [] → meth.sig.returnType = ret → meth.locks = false → meth.name = y.name → lv_has ls maxL (lv_args 0 av) →
      W p l e rm s m av.toArray below meth c s.heap [] 0 0 (MQ below Qc av.toArray s mc ms (mm_A G)) (F0 m 0 ls [])) : Met l y (ws_ y cc maxL ret) rm (mm_Pc G av σ) Qc mc ms (mm_A G) := by
  refine Met.ofW (cc := cc) (maxL := maxL) (ret := ret) hy rfl ?_
  intro p e s m args below meth c s₁ B hml hv
  obtain ⟨rfl, hP, hK⟩ := hv
  have hts := atoms_spec (ws := ws_ y cc maxL ret) B.pre
  have hts : ∀ w ∈ lw_all, w.before _ s = true := fun w h => hts w (List.mem_cons_of_mem _ h)
  have hl := lv_entry av (n := maxL) hL
  rw [lg_entry_eq]
  generalize (lg_sl av ++ List.replicate (maxL - (lg_sl av).length) Slot.unset).toArray = ls at hl ⊢
  exact body p e s m below meth c ls ⟨B.exec, B.bytes, hml, findClass_of_methodNamed B.named, hts, hK⟩ ⟨hP, va_S.rf⟩ B.returns B.notSynchronized (name_of_methodNamed B.named B.method).1 hl
end MS
