/-! THE ROWS OVER THE PURE MEMORY -/
set_option maxRecDepth 100000
def TX14 : u_T := fun _ => ("IslandHeap$Collect", "", "", false)
def tyX14 : Nat → FieldType := fun _ => .int
abbrev mm_cl : List vw_C := [(RX0, TX0, 7), (RX1, TX1, 11), (RX2, TX2, 18), (RX3, TX3, 6), (RX4, TX4, 8), (RX5, TX5, 6), (RX6, TX6, 3), (RX7, TX7, 3), (RX8, TX8, 7), (RX9, TX9, 2), (RX10, TX10, 2), (RX11, TX11, 2), (RX12, TX12, 3), (RX13, TX13, 2), (RX14, TX14, 0), (RJ2, TJ2, 3)]
/-- the launch's numbers: classes and slots, array classes by kind, the parts' constants, the first address of ours, the empty array of lists, the Class object of Object[] -/
abbrev mm_G : Type := va_G × (Nat → ClassId) × (Nat → Nat) × Nat × (Nat × Option Nat × Option Nat) × Nat
def mm_pv : mm_V → Value
  | .inl x => .int x
  | .inr (.inl r) => va_rf r
  | .inr (.inr z) => .long z
def mm_pe (G : mm_G) : mm_E → va_E
  | .inl o => .inr (o.1, o.2.map mm_pv)
  | .inr (.inl t) => .inl (G.2.1 t.1, t.2.1, .inl t.2.2)
  | .inr (.inr t) => .inl (G.2.1 t.1, t.2.1, .inr (.inr (.inr (.inr t.2.2))))
abbrev mm_b (G : mm_G) : Nat := G.2.2.2.1
def mm_A (G : mm_G) : Nat → Prop := fun q => mm_b G ≤ q
def mm_emp : mm_E → Prop
  | .inr (.inr t) => t.2.1 = 0
  | _ => False
/-- an array of no places, of which only the class is known -/
def mm_wk (G : mm_G) (k a : Nat) (H : Heap) : Prop := ∃ cell : Cell, H[a]? = some cell ∧ cell.cls = G.2.1 k ∧ cell.vm ≠ .unknown ∧ cell.vm.isStatics = false ∧ Int32.ofNat cell.slots.size = 0
/-- a cell of the memory in the heap -/
def mm_at (G : mm_G) (a : Nat) (e : mm_E) (H : Heap) : Prop := match e with
  | .inl o => va_at G.1 mm_cl (a, mm_pe G (.inl o)) H
  | .inr (.inl t) => va_at G.1 mm_cl (a, mm_pe G (.inr (.inl t))) H
  | .inr (.inr t) => (t.2.1 ≠ 0 ∧ va_at G.1 mm_cl (a, mm_pe G (.inr (.inr t))) H) ∨ (t.2.1 = 0 ∧ mm_wk G t.1 a H)
theorem mm_at.of {G : mm_G} {a : Nat} {e : mm_E} {H : Heap} (h : va_at G.1 mm_cl (a, mm_pe G e) H) : mm_at G a e H := by
  rcases e with o | t | t
  · exact h
  · exact h
  · by_cases hn : t.2.1 = 0
    · refine Or.inr ⟨hn, _, h, rfl, (fun q => by cases q), rfl, ?_⟩
      show Int32.ofNat (arrV _ t.2.1 _).slots.size = 0
      rw [arrV_size, hn]
      rfl
    · exact Or.inl ⟨hn, h⟩
theorem mm_at.kept {G : mm_G} {a : Nat} {e : mm_E} {H H1 : Heap} (h : mm_at G a e H) (hq : H1[a]? = H[a]?) : mm_at G a e H1 := by
  rcases e with o | t | t
  · exact va_at.kept (show va_at G.1 mm_cl (a, mm_pe G (.inl o)) H from h) hq
  · exact va_at.kept (show va_at G.1 mm_cl (a, mm_pe G (.inr (.inl t))) H from h) hq
  · rcases h with ⟨h1, h2⟩ | ⟨h1, cell, h2⟩
    · exact Or.inl ⟨h1, va_at.kept h2 hq⟩
    · exact Or.inr ⟨h1, cell, by rw [hq]; exact h2.1, h2.2⟩
theorem mm_at.lt {G : mm_G} {a : Nat} {e : mm_E} {H : Heap} (h : mm_at G a e H) : a < H.size := by
  rcases e with o | t | t
  · exact va_at.lt (show va_at G.1 mm_cl (a, mm_pe G (.inl o)) H from h)
  · exact va_at.lt (show va_at G.1 mm_cl (a, mm_pe G (.inr (.inl t))) H from h)
  · rcases h with ⟨h1, h2⟩ | ⟨h1, cell, h2⟩
    · exact va_at.lt h2
    · exact (Array.getElem?_eq_some_iff.mp h2.1).1
/-- the heap holds the memory -/
def mm_P (G : mm_G) (σ : mm_M) (H : Heap) : Prop := H.size = σ.2.1 ∧ (mm_b G ≤ σ.2.1 ∧ σ.2.2 = G.2.2.2.2.1) ∧ ∀ a e, σ.1 a = some e → mm_at G a e H ∧ (mm_b G ≤ a ∨ mm_emp e)
abbrev mm_ty (k : Nat) : FieldType := match k with
  | 0 => .int
  | 1 => .boolean
  | 2 => .byte
  | 3 => .object RX3
  | 4 => .object RX1
  | _ => .object "java/lang/Object"
abbrev mm_tys (G : mm_G) : List (ClassId × FieldType) := [(G.2.1 0, .int), (G.2.1 1, .boolean), (G.2.1 2, .byte), (G.2.1 3, .object RX3), (G.2.1 4, .object RX1), (G.2.1 5, .object "java/lang/Object")]
/-- the words that no list carries -/
def mm_ok : Cond → Bool
  | .fieldLinkNest _ _ _ _ _ _ => true
  | .methodLinkNest _ _ _ _ => true
  | .castable _ _ => true
  | .declares _ => true
  | _ => false
def mm_nk (U : State) : Prop := ∀ w ∈ lw_tbl, mm_ok w = true → va_Nw w U
theorem mm_nk.warm {s U : State} (hW : s.WarmedH U.vm) (h : mm_nk s) : mm_nk U := by
  intro w hw ho
  have hz := h w hw ho
  cases w with
  | fieldLinkNest a b c d e f => exact va_Nw.warmF hW hz
  | methodLinkNest a b c d => exact va_Nw.warmM hW hz
  | castable a b => exact va_Nw.warmC hW hz
  | declares a => exact va_Nw.warmD hW hz
  | _ => simp [mm_ok] at ho
theorem mm_nk.same {s U : State} (hv : s.vm = U.vm) (h : mm_nk s) : mm_nk U := by
  intro w hw ho
  have hz := h w hw ho
  cases w with
  | fieldLinkNest a b c d e f => exact va_Nw.same rfl hv hz
  | methodLinkNest a b c d => exact va_Nw.same rfl hv hz
  | castable a b => exact va_Nw.same rfl hv hz
  | declares a => exact va_Nw.same rfl hv hz
  | _ => simp [mm_ok] at ho
def mm_pn (i : Nat) : String := (["ADDRESS", "SIZE", "FIELDS", "WORDS_OF_DATA", "PINNED", "AGE", "REFERENCES", "LIVE"] : List String).getD i ""
def mm_pc (i : Nat) : String := (["IslandHeap$Part$1", "IslandHeap$Part$2", "IslandHeap$Part$3", "IslandHeap$Part$4", "IslandHeap$Part$5", "IslandHeap$Part$6", "IslandHeap$Part$7", "IslandHeap$Part$8"] : List String).getD i ""
def mm_xc : MethodName := ⟨"IslandHeap$Command", "runOn", "(LIslandHeap;)I"⟩
/-- what stands in static fields that nobody writes -/
def mm_St (G : mm_G) (U : State) (H : Heap) : Prop :=
  (∀ i, i < 8 → va_Z "IslandHeap$Part" (mm_pn i) "LIslandHeap$Part;" (.ref (G.2.2.1 i)) (mm_A G) U H ∧ va_O (mm_pc i) (G.2.2.1 i) (mm_A G) U H) ∧
  va_Z "java/util/ArrayList" "DEFAULTCAPACITY_EMPTY_ELEMENTDATA" "[Ljava/lang/Object;" (.ref G.2.2.2.2.1.1) (mm_A G) U H ∧
  va_Z "java/lang/Throwable" "UNASSIGNED_STACK" "[Ljava/lang/StackTraceElement;" (va_rf G.2.2.2.2.1.2.1) (mm_A G) U H ∧
  va_Z "java/lang/Throwable" "SUPPRESSED_SENTINEL" "Ljava/util/List;" (va_rf G.2.2.2.2.1.2.2) (mm_A G) U H
theorem mm_St.moved {G : mm_G} {u U : State} {H : Heap} (hvm : u.vm.Alike U.vm) (h : mm_St G u H) : mm_St G U H :=
  ⟨fun i hi => ⟨va_Z.moved hvm (h.1 i hi).1, va_O.moved hvm (h.1 i hi).2⟩, va_Z.moved hvm h.2.1, va_Z.moved hvm h.2.2.1, va_Z.moved hvm h.2.2.2⟩
theorem mm_St.kept {G : mm_G} {U : State} {H H1 : Heap} (h : mm_St G U H) (hq : ∀ a : Nat, a < H.size → ¬ mm_A G a → H1[a]? = H[a]?) : mm_St G U H1 :=
  ⟨fun i hi => ⟨(h.1 i hi).1.kept hq, (h.1 i hi).2.kept hq⟩, h.2.1.kept hq, h.2.2.1.kept hq, h.2.2.2.kept hq⟩
/-- what a call by the interface asks -/
def mm_fw (U : State) : Prop := va_Fw RX9 mm_xc yX9_runOn U ∧ va_Fw RX10 mm_xc yX10_runOn U ∧ va_Fw RX11 mm_xc yX11_runOn U ∧ va_Fw RX12 mm_xc yX12_runOn U ∧ va_Fw RX13 mm_xc yX13_runOn U ∧ va_Fw RX14 mm_xc yX14_runOn U
theorem mm_fw.moved {u U : State} (hvm : u.vm.Alike U.vm) (h : mm_fw u) : mm_fw U := by
  have hx : mm_xc.cls ≠ "java/lang/invoke/MethodHandle" ∧ mm_xc.cls ≠ "java/lang/invoke/VarHandle" := ⟨by decide +kernel, by decide +kernel⟩
  obtain ⟨h1, h2, h3, h4, h5, h6⟩ := h
  exact ⟨va_Fw.moved hx hvm h1, va_Fw.moved hx hvm h2, va_Fw.moved hx hvm h3, va_Fw.moved hx hvm h4, va_Fw.moved hx hvm h5, va_Fw.moved hx hvm h6⟩
/-- what the tables say all through, and the statics -/
def mm_K (G : mm_G) (U : State) (H : Heap) : Prop := va_K G.1 mm_cl (mm_tys G) U ∧ mm_nk U ∧ (va_AO RX3 U ∧ va_AO RX1 U ∧ va_AO "java/lang/Object" U) ∧ mm_St G U H ∧ (va_Mi "[Ljava/lang/Object;" G.2.2.2.2.2 U ∧ va_Dc U) ∧ mm_fw U
theorem mm_K.warm {G : mm_G} {s U : State} {H : Heap} (hW : s.WarmedH U.vm) (h : mm_K G s H) : mm_K G U H :=
  ⟨va_K.moved hW.alike h.1, h.2.1.warm hW, ⟨va_AO.moved hW.alike h.2.2.1.1, va_AO.moved hW.alike h.2.2.1.2.1, va_AO.moved hW.alike h.2.2.1.2.2⟩, h.2.2.2.1.moved hW.alike, ⟨va_Mi.moved hW.alike h.2.2.2.2.1.1, va_Dc.moved hW.alike h.2.2.2.2.1.2⟩, h.2.2.2.2.2.moved hW.alike⟩
theorem mm_K.same {G : mm_G} {s U : State} {H : Heap} (hv : s.vm = U.vm) (h : mm_K G s H) : mm_K G U H := by
  have ha : s.vm.Alike U.vm := by rw [hv]; exact Vm.Alike.refl U.vm
  exact ⟨va_K.moved ha h.1, h.2.1.same hv, ⟨va_AO.moved ha h.2.2.1.1, va_AO.moved ha h.2.2.1.2.1, va_AO.moved ha h.2.2.1.2.2⟩, h.2.2.2.1.moved ha, ⟨va_Mi.moved ha h.2.2.2.2.1.1, va_Dc.moved ha h.2.2.2.2.1.2⟩, h.2.2.2.2.2.moved ha⟩
theorem mm_K.kept {G : mm_G} {s : State} {H H1 : Heap} (h : mm_K G s H) (hq : ∀ a : Nat, a < H.size → ¬ mm_A G a → H1[a]? = H[a]?) : mm_K G s H1 := ⟨h.1, h.2.1, h.2.2.1, h.2.2.2.1.kept hq, h.2.2.2.2⟩
/-- a class of the list: its words, types, names, what a new object holds -/
def mm_C (ci : Nat) (C : String) (T : u_T) (N : Nat) (ty : Nat → FieldType) (df : List mm_V) : Prop := mm_cl[ci]? = some (C, T, N) ∧ (∀ w ∈ u_ws C T N, w ∈ lw_all) ∧ (∀ k, k < N → parseFieldDescriptor (T k).2.2.1 = some (ty k)) ∧ (∀ a, a < N → ∀ b, b < N → a ≠ b → (T a).2.1 ≠ (T b).2.1) ∧ ∀ j, j < N → defaultValue (ty j) = vp_V (df.map mm_pv) j
/-- what holds in a method's body -/
def mm_F (p : Program) (s : State) (m : MethodId) (args : Array Value) (c : Code) (own : String) (cc : ByteArray) (nL : Nat) (G : mm_G) : Prop := p.tables.exec = Jvm.exec ∧ c.code = cc ∧ c.maxLocals = nL ∧ s.vm.findClass own = some m.cls ∧ (∀ w ∈ lw_all, w.before args s = true) ∧ mm_K G s s.heap
/-- where a body stands: the memory, and what was written -/
def mm_H (G : mm_G) (s : State) (σ : mm_M) (H : Heap) (locs : List Loc) : Prop := mm_P G σ H ∧ va_S (mm_A G) s.heap H locs
theorem mm_P.at {G : mm_G} {σ : mm_M} {H : Heap} {a : Nat} {e : mm_E} (h : mm_P G σ H) (he : σ.1 a = some e) (hn : ¬ mm_emp e := by exact fun h => h) : va_P G.1 mm_cl [(a, mm_pe G e)] H := by
  intro k q hq
  cases k with
  | zero =>
    cases hq
    have h1 := (h.2.2 a e he).1
    rcases e with o | t | t
    · exact h1
    · exact h1
    · rcases h1 with h1 | h1
      · exact h1.2
      · exact absurd h1.1 hn
  | succ k => cases hq
theorem mm_H.set {G : mm_G} {s : State} {σ : mm_M} {H H1 : Heap} {locs L : List Loc} {a : Nat} {e : mm_E} (h : mm_H G s σ H locs) (hb : mm_b G ≤ a) (he : va_at G.1 mm_cl (a, mm_pe G e) H1) (z : H1.size = H.size) (oq : ∀ q : Nat, q ≠ a → H1[q]? = H[q]?) (hL : ∀ l ∈ L, l.base = a) : mm_H G s (sE σ a e) H1 (locs ++ L) := by
  refine ⟨⟨z.trans h.1.1, h.1.2.1, fun b e' hb' => ?_⟩, ⟨by rw [z]; exact h.2.1, fun q h1 h2 => ?_, fun q hq => ?_⟩⟩
  · unfold sE at hb'
    dsimp only at hb'
    by_cases hba : b = a
    · rw [if_pos hba] at hb'
      cases hb'
      subst hba
      exact ⟨mm_at.of he, Or.inl hb⟩
    · rw [if_neg hba] at hb'
      exact ⟨(h.1.2.2 b e' hb').1.kept (oq b hba), (h.1.2.2 b e' hb').2⟩
  · rw [oq q (fun e => h2 (by rw [e]; exact hb))]
    exact h.2.2.1 q h1 h2
  · rcases List.mem_append.mp hq with h1 | h1
    · exact h.2.2.2 q h1
    · rw [hL q h1]
      exact hb
theorem mm_H.new {G : mm_G} {s : State} {σ : mm_M} {H H1 : Heap} {locs : List Loc} {e : mm_E} (h : mm_H G s σ H locs) (he : va_at G.1 mm_cl (σ.2.1, mm_pe G e) H1) (z : H1.size = σ.2.1 + 1) (oq : ∀ q : Nat, q < σ.2.1 → H1[q]? = H[q]?) : mm_H G s (nE σ e) H1 locs := by
  have hz := h.1.1
  refine ⟨⟨z, ⟨Nat.le_succ_of_le h.1.2.1.1, h.1.2.1.2⟩, fun b e' hb' => ?_⟩, ⟨by rw [z]; exact Nat.le_trans h.2.1 (by omega), fun q h1 h2 => ?_, h.2.2.2⟩⟩
  · unfold nE at hb'
    dsimp only at hb'
    by_cases hba : b = σ.2.1
    · rw [if_pos hba] at hb'
      cases hb'
      subst hba
      exact ⟨mm_at.of he, Or.inl h.1.2.1.1⟩
    · rw [if_neg hba] at hb'
      have hlt := (h.1.2.2 b e' hb').1.lt
      exact ⟨(h.1.2.2 b e' hb').1.kept (oq b (by rw [← hz]; exact hlt)), (h.1.2.2 b e' hb').2⟩
  · rw [oq q (by rw [← hz]; exact Nat.lt_of_lt_of_le h1 h.2.1)]
    exact h.2.2.1 q h1 h2
theorem mm_H.K {G : mm_G} {s : State} {σ : mm_M} {H : Heap} {locs : List Loc} (h : mm_H G s σ H locs) (hK : mm_K G s s.heap) : mm_K G s H := hK.kept h.2.2.1
/-- a method's start and ends -/
def mm_Pc (G : mm_G) (av : List Value) (σ : mm_M) : Array Value → State → Prop := va_Pc av (fun U => mm_P G σ U.heap ∧ mm_K G U U.heap)
def mm_Qi (G : mm_G) (r : Int32) (σ : mm_M) : Array Value → State → Outcome → State → Prop := va_Qi (fun (r' : Int32) (_ : Unit) => r' = r) (fun _ t => mm_P G σ t.heap) (mm_A G)
def mm_Ql (G : mm_G) (r : Int64) (σ : mm_M) : Array Value → State → Outcome → State → Prop := va_Ql (fun (r' : Int64) (_ : Unit) => r' = r) (fun _ t => mm_P G σ t.heap) (mm_A G)
def mm_Qq (G : mm_G) (r : Option Nat) (σ : mm_M) : Array Value → State → Outcome → State → Prop := va_Qq (fun (r' : Option Nat) (_ : Unit) => r' = r) (fun _ t => mm_P G σ t.heap) (mm_A G)
def mm_Qv (G : mm_G) (σ : mm_M) : Array Value → State → Outcome → State → Prop := va_Qv (fun (_ : Unit) => True) (fun _ t => mm_P G σ t.heap) (mm_A G)
theorem mm_Pc.blind {G : mm_G} {av : List Value} {σ : mm_M} : FrameBlind (mm_Pc G av σ) := fun a U g mk q => ⟨q.1, q.2.1, mm_K.same (s := U) (U := U.calling g mk a) rfl q.2.2⟩
theorem mm_preS {G : mm_G} {s : State} {σ : mm_M} {H : Heap} {locs : List Loc} {As : List Value} (hK : mm_K G s s.heap) (hH : mm_H G s σ H locs) : PreS s H (mm_Pc G As σ) As :=
  ⟨mm_Pc.blind, fun U hU hW => ⟨rfl, by rw [hU]; exact hH.1, by rw [hU]; exact (hH.K hK).warm hW⟩⟩
theorem mm_preV {G : mm_G} {s : State} {σ : mm_M} {H : Heap} {locs : List Loc} {As : List Value} {b ci : Nat} {q : vw_C} {fs : List mm_V} (hK : mm_K G s s.heap) (hH : mm_H G s σ H locs) (hc : mm_cl[ci]? = some q) (hb : σ.1 b = some (.inl (ci, fs))) : PreV s H q.1 b (mm_Pc G (.ref b :: As) σ) As :=
  ⟨mm_Pc.blind, va_recv hK.1 (hH.1.at hb) hc (q0 := 0) rfl, fun U hU hW => ⟨rfl, by rw [hU]; exact hH.1, by rw [hU]; exact (hH.K hK).warm hW⟩⟩
section MR
variable {p : Program} {l : Launch} {e : Env} {R : Room} {s : State} {m : MethodId} {args : Array Value} {below : List Frame} {meth : Method} {c : Code} {H : Heap} {locs : List Loc} {cells slots : Nat} {Q : State → Prop}
variable {cc : ByteArray} {pc nL : Nat} {ls : Array Slot} {rest st0 : List Value} {own : String} {G : mm_G} {σ σ' : mm_M} {a : Nat}
theorem mm_aload_n (hx : p.tables.exec = Jvm.exec) (hb : c.code = cc) {k : Fin 4} {i : Nat} {r : Option Nat} (hdg : decode cc pc = .ok (.aload_n k, 1)) (hi : (k : Nat) = i) (hl : ls[i]? = some (.val (va_rf r)))
    (kk : W p l e R s m args below meth c H locs cells slots Q (F0 m (pc + 1) ls (va_rf r :: rest))) : W p l e R s m args below meth c H locs cells slots Q (F0 m pc ls rest) := by
  cases r with
  | none => exact lv_aload_nN hx hb hdg hi hl kk
  | some x => exact lv_aload_n hx hb hdg hi hl kk
theorem mm_aload (hx : p.tables.exec = Jvm.exec) (hb : c.code = cc) {i : Nat} {r : Option Nat} (hdg : decode cc pc = .ok (.aload i, 2)) (hl : ls[i]? = some (.val (va_rf r)))
    (kk : W p l e R s m args below meth c H locs cells slots Q (F0 m (pc + 2) ls (va_rf r :: rest))) : W p l e R s m args below meth c H locs cells slots Q (F0 m pc ls rest) := by
  cases r with
  | none => exact lv_aloadN hx hb hdg hl kk
  | some x => exact lv_aload hx hb hdg hl kk
theorem mm_astore_n (hx : p.tables.exec = Jvm.exec) (hb : c.code = cc) {k : Fin 4} {i : Nat} {r : Option Nat} {lv lv' : List (Nat × Value)} (hdg : decode cc pc = .ok (.astore_n k, 1)) (hi : (k : Nat) = i) (h : lv_has ls nL lv) (hn : i < nL) (hl : (i, va_rf r) :: lv.filter (fun q => !(q.1 == i) && !(q.1 + 1 == i && q.2.category == 2)) = lv')
    (kk : ∀ ls' : Array Slot, lv_has ls' nL lv' → W p l e R s m args below meth c H locs cells slots Q (F0 m (pc + 1) ls' rest)) : W p l e R s m args below meth c H locs cells slots Q (F0 m pc ls (va_rf r :: rest)) := by
  cases r with
  | none => exact lv_astore_nN hx hb hdg hi h hn hl kk
  | some x => exact lv_astore_n hx hb hdg hi h hn hl kk
theorem mm_astore (hx : p.tables.exec = Jvm.exec) (hb : c.code = cc) {i : Nat} {r : Option Nat} {lv lv' : List (Nat × Value)} (hdg : decode cc pc = .ok (.astore i, 2)) (h : lv_has ls nL lv) (hn : i < nL) (hl : (i, va_rf r) :: lv.filter (fun q => !(q.1 == i) && !(q.1 + 1 == i && q.2.category == 2)) = lv')
    (kk : ∀ ls' : Array Slot, lv_has ls' nL lv' → W p l e R s m args below meth c H locs cells slots Q (F0 m (pc + 2) ls' rest)) : W p l e R s m args below meth c H locs cells slots Q (F0 m pc ls (va_rf r :: rest)) := by
  cases r with
  | none => exact lv_astoreN hx hb hdg h hn hl kk
  | some x => exact lv_astore hx hb hdg h hn hl kk
theorem mm_dup (hx : p.tables.exec = Jvm.exec) (hb : c.code = cc) {r : Option Nat} (hdg : decode cc pc = .ok (.dup, 1)) (kk : W p l e R s m args below meth c H locs cells slots Q (F0 m (pc + 1) ls (va_rf r :: va_rf r :: rest))) : W p l e R s m args below meth c H locs cells slots Q (F0 m pc ls (va_rf r :: rest)) :=
  lv_dup hx hb hdg (by cases r <;> rfl) kk
theorem mm_pop (hx : p.tables.exec = Jvm.exec) (hb : c.code = cc) {r : Option Nat} (hdg : decode cc pc = .ok (.pop, 1)) (kk : W p l e R s m args below meth c H locs cells slots Q (F0 m (pc + 1) ls rest)) : W p l e R s m args below meth c H locs cells slots Q (F0 m pc ls (va_rf r :: rest)) :=
  lv_pop hx hb hdg (by cases r <;> rfl) kk
/-- a field is read -/
theorem mm_get (F : mm_F p s m args c own cc nL G) (hH : mm_H G s σ H locs) {C ref : String} {T : u_T} {N ci k index : Nat} {ty : Nat → FieldType} {df : List mm_V} (hC : mm_C ci C T N ty df) (hk : k < N) (hlink : (Cond.fieldLink own index ref (T k).2.1 (T k).2.2.1).before args s = true) (hsame : ∀ x, s.fieldFound? (T k).1 (T k).2.1 (T k).2.2.1 = some x → s.fieldFound? ref (T k).2.1 (T k).2.2.1 = some x) {v : mm_V} (hv : gF σ a ci k = some v) (hdg : decode cc pc = .ok (.getfield index, 3))
    (kk : W p l e R s m args below meth c H locs cells slots Q (F0 m (pc + 3) ls (mm_pv v :: rest))) : W p l e R s m args below meth c H locs cells slots Q (F0 m pc ls (.ref a :: rest)) := by
  obtain ⟨fs, h1, h2⟩ := gF_i hv
  exact va_get F.1 F.2.1 F.2.2.2.2.1 hC.2.1 F.2.2.2.1 F.2.2.2.2.2.1 (hH.1.at h1) 0 rfl hC.1 k hk hlink hsame (v := mm_pv v) (by rw [List.getElem?_map, h2]; rfl) hdg kk
theorem mm_getN (F : mm_F p s m args c own cc nL G) (hH : mm_H G s σ H locs) {C ref host : String} {T : u_T} {N ci k index : Nat} {ty : Nat → FieldType} {df : List mm_V} (hC : mm_C ci C T N ty df) (hk : k < N) (hlink : (Cond.fieldLinkNest own index ref (T k).2.1 (T k).2.2.1 host) ∈ lw_tbl) (hsame : ∀ x, s.fieldFound? (T k).1 (T k).2.1 (T k).2.2.1 = some x → s.fieldFound? ref (T k).2.1 (T k).2.2.1 = some x) {v : mm_V} (hv : gF σ a ci k = some v) (hdg : decode cc pc = .ok (.getfield index, 3))
    (kk : W p l e R s m args below meth c H locs cells slots Q (F0 m (pc + 3) ls (mm_pv v :: rest))) : W p l e R s m args below meth c H locs cells slots Q (F0 m pc ls (.ref a :: rest)) := by
  obtain ⟨fs, h1, h2⟩ := gF_i hv
  exact va_getN F.1 F.2.1 F.2.2.2.2.1 hC.2.1 F.2.2.2.1 F.2.2.2.2.2.1 (hH.1.at h1) 0 rfl hC.1 k hk (va_Nw.use rfl (F.2.2.2.2.2.2.1 _ hlink rfl)) hsame (v := mm_pv v) (by rw [List.getElem?_map, h2]; rfl) hdg kk
/-- a field is read: by its type -/
theorem mm_getI (F : mm_F p s m args c own cc nL G) (hH : mm_H G s σ H locs) {C ref : String} {T : u_T} {N ci k index : Nat} {ty : Nat → FieldType} {df : List mm_V} (hC : mm_C ci C T N ty df) (hk : k < N) (hlink : (Cond.fieldLink own index ref (T k).2.1 (T k).2.2.1).before args s = true) (hsame : ∀ x, s.fieldFound? (T k).1 (T k).2.1 (T k).2.2.1 = some x → s.fieldFound? ref (T k).2.1 (T k).2.2.1 = some x) {x : Int32} (hv : gI σ a ci k = some x) (hdg : decode cc pc = .ok (.getfield index, 3))
    (kk : W p l e R s m args below meth c H locs cells slots Q (F0 m (pc + 3) ls (.int x :: rest))) : W p l e R s m args below meth c H locs cells slots Q (F0 m pc ls (.ref a :: rest)) := mm_get F hH hC hk hlink hsame (gI_i hv) hdg kk
theorem mm_getIN (F : mm_F p s m args c own cc nL G) (hH : mm_H G s σ H locs) {C ref host : String} {T : u_T} {N ci k index : Nat} {ty : Nat → FieldType} {df : List mm_V} (hC : mm_C ci C T N ty df) (hk : k < N) (hlink : (Cond.fieldLinkNest own index ref (T k).2.1 (T k).2.2.1 host) ∈ lw_tbl) (hsame : ∀ x, s.fieldFound? (T k).1 (T k).2.1 (T k).2.2.1 = some x → s.fieldFound? ref (T k).2.1 (T k).2.2.1 = some x) {x : Int32} (hv : gI σ a ci k = some x) (hdg : decode cc pc = .ok (.getfield index, 3))
    (kk : W p l e R s m args below meth c H locs cells slots Q (F0 m (pc + 3) ls (.int x :: rest))) : W p l e R s m args below meth c H locs cells slots Q (F0 m pc ls (.ref a :: rest)) := mm_getN F hH hC hk hlink hsame (gI_i hv) hdg kk
theorem mm_getR (F : mm_F p s m args c own cc nL G) (hH : mm_H G s σ H locs) {C ref : String} {T : u_T} {N ci k index : Nat} {ty : Nat → FieldType} {df : List mm_V} (hC : mm_C ci C T N ty df) (hk : k < N) (hlink : (Cond.fieldLink own index ref (T k).2.1 (T k).2.2.1).before args s = true) (hsame : ∀ x, s.fieldFound? (T k).1 (T k).2.1 (T k).2.2.1 = some x → s.fieldFound? ref (T k).2.1 (T k).2.2.1 = some x) {x : Option Nat} (hv : gR σ a ci k = some x) (hdg : decode cc pc = .ok (.getfield index, 3))
    (kk : W p l e R s m args below meth c H locs cells slots Q (F0 m (pc + 3) ls (va_rf x :: rest))) : W p l e R s m args below meth c H locs cells slots Q (F0 m pc ls (.ref a :: rest)) := mm_get F hH hC hk hlink hsame (gR_i hv) hdg kk
theorem mm_getRN (F : mm_F p s m args c own cc nL G) (hH : mm_H G s σ H locs) {C ref host : String} {T : u_T} {N ci k index : Nat} {ty : Nat → FieldType} {df : List mm_V} (hC : mm_C ci C T N ty df) (hk : k < N) (hlink : (Cond.fieldLinkNest own index ref (T k).2.1 (T k).2.2.1 host) ∈ lw_tbl) (hsame : ∀ x, s.fieldFound? (T k).1 (T k).2.1 (T k).2.2.1 = some x → s.fieldFound? ref (T k).2.1 (T k).2.2.1 = some x) {x : Option Nat} (hv : gR σ a ci k = some x) (hdg : decode cc pc = .ok (.getfield index, 3))
    (kk : W p l e R s m args below meth c H locs cells slots Q (F0 m (pc + 3) ls (va_rf x :: rest))) : W p l e R s m args below meth c H locs cells slots Q (F0 m pc ls (.ref a :: rest)) := mm_getN F hH hC hk hlink hsame (gR_i hv) hdg kk
theorem mm_getA (F : mm_F p s m args c own cc nL G) (hH : mm_H G s σ H locs) {C ref : String} {T : u_T} {N ci k index : Nat} {ty : Nat → FieldType} {df : List mm_V} (hC : mm_C ci C T N ty df) (hk : k < N) (hlink : (Cond.fieldLink own index ref (T k).2.1 (T k).2.2.1).before args s = true) (hsame : ∀ x, s.fieldFound? (T k).1 (T k).2.1 (T k).2.2.1 = some x → s.fieldFound? ref (T k).2.1 (T k).2.2.1 = some x) {x : Nat} (hv : gA σ a ci k = some x) (hdg : decode cc pc = .ok (.getfield index, 3))
    (kk : W p l e R s m args below meth c H locs cells slots Q (F0 m (pc + 3) ls (.ref x :: rest))) : W p l e R s m args below meth c H locs cells slots Q (F0 m pc ls (.ref a :: rest)) := mm_get F hH hC hk hlink hsame (gA_i hv) hdg kk
theorem mm_getAN (F : mm_F p s m args c own cc nL G) (hH : mm_H G s σ H locs) {C ref host : String} {T : u_T} {N ci k index : Nat} {ty : Nat → FieldType} {df : List mm_V} (hC : mm_C ci C T N ty df) (hk : k < N) (hlink : (Cond.fieldLinkNest own index ref (T k).2.1 (T k).2.2.1 host) ∈ lw_tbl) (hsame : ∀ x, s.fieldFound? (T k).1 (T k).2.1 (T k).2.2.1 = some x → s.fieldFound? ref (T k).2.1 (T k).2.2.1 = some x) {x : Nat} (hv : gA σ a ci k = some x) (hdg : decode cc pc = .ok (.getfield index, 3))
    (kk : W p l e R s m args below meth c H locs cells slots Q (F0 m (pc + 3) ls (.ref x :: rest))) : W p l e R s m args below meth c H locs cells slots Q (F0 m pc ls (.ref a :: rest)) := mm_getN F hH hC hk hlink hsame (gA_i hv) hdg kk
theorem mm_getL (F : mm_F p s m args c own cc nL G) (hH : mm_H G s σ H locs) {C ref : String} {T : u_T} {N ci k index : Nat} {ty : Nat → FieldType} {df : List mm_V} (hC : mm_C ci C T N ty df) (hk : k < N) (hlink : (Cond.fieldLink own index ref (T k).2.1 (T k).2.2.1).before args s = true) (hsame : ∀ x, s.fieldFound? (T k).1 (T k).2.1 (T k).2.2.1 = some x → s.fieldFound? ref (T k).2.1 (T k).2.2.1 = some x) {x : Int64} (hv : gL σ a ci k = some x) (hdg : decode cc pc = .ok (.getfield index, 3))
    (kk : W p l e R s m args below meth c H locs cells slots Q (F0 m (pc + 3) ls (.long x :: rest))) : W p l e R s m args below meth c H locs cells slots Q (F0 m pc ls (.ref a :: rest)) := mm_get F hH hC hk hlink hsame (gL_i hv) hdg kk
theorem mm_getLN (F : mm_F p s m args c own cc nL G) (hH : mm_H G s σ H locs) {C ref host : String} {T : u_T} {N ci k index : Nat} {ty : Nat → FieldType} {df : List mm_V} (hC : mm_C ci C T N ty df) (hk : k < N) (hlink : (Cond.fieldLinkNest own index ref (T k).2.1 (T k).2.2.1 host) ∈ lw_tbl) (hsame : ∀ x, s.fieldFound? (T k).1 (T k).2.1 (T k).2.2.1 = some x → s.fieldFound? ref (T k).2.1 (T k).2.2.1 = some x) {x : Int64} (hv : gL σ a ci k = some x) (hdg : decode cc pc = .ok (.getfield index, 3))
    (kk : W p l e R s m args below meth c H locs cells slots Q (F0 m (pc + 3) ls (.long x :: rest))) : W p l e R s m args below meth c H locs cells slots Q (F0 m pc ls (.ref a :: rest)) := mm_getN F hH hC hk hlink hsame (gL_i hv) hdg kk
theorem mm_w (F : mm_F p s m args c own cc nL G) {hH : mm_H G s σ H locs} {C : String} {T : u_T} {N ci k : Nat} {ty : Nat → FieldType} {df : List mm_V} (hC : mm_C ci C T N ty df) (hk : k < N) {fs : List mm_V} (h1 : σ.1 a = some (.inl (ci, fs))) (hl : k < fs.length) {v : mm_V} {cell : Cell} (q1 : H[a]? = some cell) (q2 : cell.cls = G.1.1 ci) (q3 : cell.vm = .none) (q4 : ∀ k, k < N → cell.slots[G.1.2 ci k]? = some (vp_V (fs.map mm_pv) k)) {L : List Loc} (hL : ∀ x ∈ L, x.base = a) {H' : Heap} (e1 : H'[a]? = some (cell.setSlot (G.1.2 ci k) (mm_pv v))) (e2 : H'.size = H.size) (e3 : ∀ q, q ≠ a → H'[q]? = H[q]?) : mm_H G s (sE σ a (.inl (ci, fs.set k v))) H' (locs ++ L) := by
  have hap := va_apart (own := own) F.2.2.2.2.1 hC.2.1 ty hC.2.2.1 hC.2.2.2.1 F.2.2.2.2.2.1 hC.1
  refine hH.set (by rcases (hH.1.2.2 a _ h1).2 with h | h; exact h; exact h.elim) ?_ e2 e3 hL
  refine ⟨_, hC.1, ?_⟩
  have e5 : (fs.set k v).map mm_pv = (fs.map mm_pv).set k (mm_pv v) := by rw [List.map_set]
  show t_OB a (G.1.1 ci) N (G.1.2 ci) H' (vp_V ((fs.set k v).map mm_pv))
  rw [e5]
  exact t_OB.to (V := updV (vp_V (fs.map mm_pv)) k (mm_pv v)) ⟨_, e1, q2, q3, t_set q4 hap hk (mm_pv v)⟩ (fun j _ => vp_updV_set (by rw [List.length_map]; exact hl) (mm_pv v) j)
/-- a field is written -/
theorem mm_put (F : mm_F p s m args c own cc nL G) (hH : mm_H G s σ H locs) {C ref : String} {T : u_T} {N ci k index : Nat} {ty : Nat → FieldType} {df : List mm_V} (hC : mm_C ci C T N ty df) (hk : k < N) (hlink : (Cond.fieldLink own index ref (T k).2.1 (T k).2.2.1).before args s = true) (hsame : ∀ x, s.fieldFound? (T k).1 (T k).2.1 (T k).2.2.1 = some x → s.fieldFound? ref (T k).2.1 (T k).2.2.1 = some x) (hfin : (T k).2.2.2 = false) {v : mm_V} (hn : narrow (ty k) (mm_pv v) = mm_pv v) (hfit : fits (ty k) (mm_pv v) = true) (hv : pF σ a ci k v = some σ') (hdg : decode cc pc = .ok (.putfield index, 3))
    (kk : ∀ (H1 : Heap) (locs1 : List Loc), mm_H G s σ' H1 locs1 → W p l e R s m args below meth c H1 locs1 cells slots Q (F0 m (pc + 3) ls rest)) : W p l e R s m args below meth c H locs cells slots Q (F0 m pc ls (mm_pv v :: .ref a :: rest)) := by
  obtain ⟨fs, h1, hl, rfl⟩ := pF_i hv
  obtain ⟨r, h1', cell, q1, q2, q3, q4⟩ := (hH.1.2.2 a _ h1).1
  have hr : r = (C, T, N) := Option.some.inj (h1'.symm.trans hC.1)
  subst hr
  obtain ⟨hS, hfc, kC, hkC, hkind⟩ := F.2.2.2.2.2.1.1 ci _ hC.1
  obtain ⟨cf, kf, fi, f, hi, hsl⟩ := hS k hk
  have hlay := F.2.2.2.2.1 _ (hC.2.1 _ (u_in_lay hk))
  unfold u_lay at hlay
  rw [if_neg (by rw [hfin]; decide)] at hlay
  have hst := (u_facts hfc hkC (u_lays F.2.2.2.2.1 hC.2.1 hk) hi).1
  have h6 := u_store hfc hkC hkind hlay hi (hC.2.2.1 k hk) hn hfit
  refine W.putK F.1 F.2.1 (f := f) ⟨F.2.2.2.1, hlink, ⟨_, _, _, hsame _ hi⟩, hst⟩ (by rw [q2]; exact h6) q1 q3 (by rw [hsl]; exact k2_hasslot (q4 k hk)) rfl rfl hdg fun H' e1 e2 e3 => ?_
  rw [hsl] at e1 ⊢
  exact kk H' _ (mm_w F (hH := hH) hC hk h1 hl q1 q2 q3 q4 (fun x hx => by rw [List.mem_singleton.mp hx]) e1 e2 e3)
theorem mm_putN (F : mm_F p s m args c own cc nL G) (hH : mm_H G s σ H locs) {C ref host : String} {T : u_T} {N ci k index : Nat} {ty : Nat → FieldType} {df : List mm_V} (hC : mm_C ci C T N ty df) (hk : k < N) (hlink : (Cond.fieldLinkNest own index ref (T k).2.1 (T k).2.2.1 host) ∈ lw_tbl) (hsame : ∀ x, s.fieldFound? (T k).1 (T k).2.1 (T k).2.2.1 = some x → s.fieldFound? ref (T k).2.1 (T k).2.2.1 = some x) (hfin : (T k).2.2.2 = false) {v : mm_V} (hn : narrow (ty k) (mm_pv v) = mm_pv v) (hfit : fits (ty k) (mm_pv v) = true) (hv : pF σ a ci k v = some σ') (hdg : decode cc pc = .ok (.putfield index, 3))
    (kk : ∀ (H1 : Heap) (locs1 : List Loc), mm_H G s σ' H1 locs1 → W p l e R s m args below meth c H1 locs1 cells slots Q (F0 m (pc + 3) ls rest)) : W p l e R s m args below meth c H locs cells slots Q (F0 m pc ls (mm_pv v :: .ref a :: rest)) := by
  obtain ⟨fs, h1, hl, rfl⟩ := pF_i hv
  obtain ⟨r, h1', cell, q1, q2, q3, q4⟩ := (hH.1.2.2 a _ h1).1
  have hr : r = (C, T, N) := Option.some.inj (h1'.symm.trans hC.1)
  subst hr
  obtain ⟨hS, hfc, kC, hkC, hkind⟩ := F.2.2.2.2.2.1.1 ci _ hC.1
  obtain ⟨cf, kf, fi, f, hi, hsl⟩ := hS k hk
  have hlay := F.2.2.2.2.1 _ (hC.2.1 _ (u_in_lay hk))
  unfold u_lay at hlay
  rw [if_neg (by rw [hfin]; decide)] at hlay
  have hst := (u_facts hfc hkC (u_lays F.2.2.2.2.1 hC.2.1 hk) hi).1
  have h6 := u_store hfc hkC hkind hlay hi (hC.2.2.1 k hk) hn hfit
  refine va_WputK F.1 F.2.1 (f := f) F.2.2.2.1 (va_Nw.use rfl (F.2.2.2.2.2.2.1 _ hlink rfl)) (hsame _ hi) hst (by rw [q2]; exact h6) q1 q3 (by rw [hsl]; exact k2_hasslot (q4 k hk)) rfl rfl hdg fun H' e1 e2 e3 => ?_
  rw [hsl] at e1 ⊢
  exact kk H' _ (mm_w F (hH := hH) hC hk h1 hl q1 q2 q3 q4 (fun x hx => by rw [List.mem_singleton.mp hx]) e1 e2 e3)
/-- a final field, in its constructor -/
theorem mm_putF (F : mm_F p s m args c own cc nL G) (hH : mm_H G s σ H locs) {C ref : String} {T : u_T} {N ci k index : Nat} {ty : Nat → FieldType} {df : List mm_V} (hC : mm_C ci C T N ty df) (hk : k < N) (hlink : (Cond.fieldLink own index ref (T k).2.1 (T k).2.2.1).before args s = true) (hsame : ∀ x, s.fieldFound? (T k).1 (T k).2.1 (T k).2.2.1 = some x → s.fieldFound? ref (T k).2.1 (T k).2.2.1 = some x) (hfin : (T k).2.2.2 = true) (hin2 : meth.name = "<init>") (hdecl : (T k).1 = own) {v : mm_V} (hn : narrow (ty k) (mm_pv v) = mm_pv v) (hfit : fits (ty k) (mm_pv v) = true) (hv : pF σ a ci k v = some σ') (hdg : decode cc pc = .ok (.putfield index, 3))
    (kk : ∀ (H1 : Heap) (locs1 : List Loc), mm_H G s σ' H1 locs1 → W p l e R s m args below meth c H1 locs1 cells slots Q (F0 m (pc + 3) ls rest)) : W p l e R s m args below meth c H locs cells slots Q (F0 m pc ls (mm_pv v :: .ref a :: rest)) := by
  obtain ⟨fs, h1, hl, rfl⟩ := pF_i hv
  obtain ⟨r, h1', cell, q1, q2, q3, q4⟩ := (hH.1.2.2 a _ h1).1
  have hr : r = (C, T, N) := Option.some.inj (h1'.symm.trans hC.1)
  subst hr
  obtain ⟨hS, hfc, kC, hkC, hkind⟩ := F.2.2.2.2.2.1.1 ci _ hC.1
  obtain ⟨cf, kf, fi, f, hi, hsl⟩ := hS k hk
  have hlay := F.2.2.2.2.1 _ (hC.2.1 _ (u_in_lay hk))
  unfold u_lay at hlay
  rw [if_pos hfin] at hlay
  have hst := (u_facts hfc hkC (u_lays F.2.2.2.2.1 hC.2.1 hk) hi).1
  have hcf : m.cls = cf := by
    obtain ⟨_, _, c', _, _, _, -, -, hf', -, -, -, hown2, -⟩ := Cond.laysFinal_spec hlay
    have e1 : c' = cf := by have := hi.symm.trans hf'; simp at this; exact this.1.symm
    rw [hdecl] at hown2
    rw [← e1]; exact Option.some.inj (F.2.2.2.1.symm.trans hown2)
  have h6 := u_fits hfc hkC hkind (Or.inr hlay) hi (hC.2.2.1 k hk) hn hfit
  refine W.putFinK F.1 F.2.1 F.2.2.2.1 hlink (hsame _ hi) hst hcf hin2 (by rw [q2]; exact h6) q1 q3 (by rw [hsl]; exact k2_hasslot (q4 k hk)) rfl rfl hdg fun H' e1 e2 e3 => ?_
  rw [hsl] at e1 ⊢
  exact kk H' _ (mm_w F (hH := hH) hC hk h1 hl q1 q2 q3 q4 (fun x hx => by rw [List.mem_singleton.mp hx]) e1 e2 e3)
/-- arrays are read -/
theorem mm_iald (F : mm_F p s m args c own cc nL G) (hH : mm_H G s σ H locs) {i x : Int32} (hv : aI σ a 0 i = some x) (hdg : decode cc pc = .ok (.iaload, 1))
    (kk : W p l e R s m args below meth c H locs cells slots Q (F0 m (pc + 1) ls (.int x :: rest))) : W p l e R s m args below meth c H locs cells slots Q (F0 m pc ls (.int i :: .ref a :: rest)) := by
  obtain ⟨n, g, h1, h2, rfl⟩ := aI_i hv
  exact va_iald F.1 F.2.1 F.2.2.2.2.2.1 (hH.1.at h1) 0 0 rfl rfl h2 hdg kk
theorem mm_zald (F : mm_F p s m args c own cc nL G) (hH : mm_H G s σ H locs) {i x : Int32} (hv : aI σ a 1 i = some x) (hdg : decode cc pc = .ok (.baload, 1))
    (kk : W p l e R s m args below meth c H locs cells slots Q (F0 m (pc + 1) ls (.int x :: rest))) : W p l e R s m args below meth c H locs cells slots Q (F0 m pc ls (.int i :: .ref a :: rest)) := by
  obtain ⟨n, g, h1, h2, rfl⟩ := aI_i hv
  exact va_zald F.1 F.2.1 F.2.2.2.2.2.1 (hH.1.at h1) 0 1 rfl rfl h2 hdg kk
theorem mm_bald (F : mm_F p s m args c own cc nL G) (hH : mm_H G s σ H locs) {i x : Int32} (hv : aI σ a 2 i = some x) (hdg : decode cc pc = .ok (.baload, 1))
    (kk : W p l e R s m args below meth c H locs cells slots Q (F0 m (pc + 1) ls (.int x :: rest))) : W p l e R s m args below meth c H locs cells slots Q (F0 m pc ls (.int i :: .ref a :: rest)) := by
  obtain ⟨n, g, h1, h2, rfl⟩ := aI_i hv
  exact va_bald F.1 F.2.1 F.2.2.2.2.2.1 (hH.1.at h1) 0 2 rfl rfl h2 hdg kk
theorem mm_pos {n : Nat} {i : Int32} (h : vp_in i n) : n ≠ 0 := fun z => h (Or.inr (by omega))
theorem mm_aald (F : mm_F p s m args c own cc nL G) (hH : mm_H G s σ H locs) {k : Nat} (hk : 3 ≤ k ∧ k < 6) {i : Int32} {r : Option Nat} (hv : aR σ a k i = some r) (hdg : decode cc pc = .ok (.aaload, 1))
    (kk : W p l e R s m args below meth c H locs cells slots Q (F0 m (pc + 1) ls (va_rf r :: rest))) : W p l e R s m args below meth c H locs cells slots Q (F0 m pc ls (.int i :: .ref a :: rest)) := by
  obtain ⟨n, g, h1, h2, rfl⟩ := aR_i hv
  rcases (show k = 3 ∨ k = 4 ∨ k = 5 by omega) with rfl | rfl | rfl
  · exact va_aldq F.1 F.2.1 F.2.2.2.2.2.1 (hH.1.at h1 (mm_pos h2)) 0 3 rfl rfl h2 hdg kk
  · exact va_aldq F.1 F.2.1 F.2.2.2.2.2.1 (hH.1.at h1 (mm_pos h2)) 0 4 rfl rfl h2 hdg kk
  · exact va_aldq F.1 F.2.1 F.2.2.2.2.2.1 (hH.1.at h1 (mm_pos h2)) 0 5 rfl rfl h2 hdg kk
theorem mm_alen (F : mm_F p s m args c own cc nL G) (hH : mm_H G s σ H locs) {x : Int32} (hv : aN σ a = some x) (hdg : decode cc pc = .ok (.arraylength, 1))
    (kk : W p l e R s m args below meth c H locs cells slots Q (F0 m (pc + 1) ls (.int x :: rest))) : W p l e R s m args below meth c H locs cells slots Q (F0 m pc ls (.ref a :: rest)) := by
  rcases aN_i hv with ⟨k, n, g, hk, h1, h2⟩ | ⟨k, n, g, hk, h1, h2⟩
  · rcases (show k = 0 ∨ k = 1 ∨ k = 2 by omega) with rfl | rfl | rfl
    · exact va_alen F.1 F.2.1 F.2.2.2.2.2.1 (hH.1.at h1) 0 0 rfl rfl h2 hdg kk
    · exact va_alen F.1 F.2.1 F.2.2.2.2.2.1 (hH.1.at h1) 0 1 rfl rfl h2 hdg kk
    · exact va_alen F.1 F.2.1 F.2.2.2.2.2.1 (hH.1.at h1) 0 2 rfl rfl h2 hdg kk
  · by_cases hn : n = 0
    · subst hn
      rcases (hH.1.2.2 a _ h1).1 with ⟨z, -⟩ | ⟨-, cell, w1, w2, w3, w4, w5⟩
      · exact absurd rfl z
      · have key : ∀ ty, (mm_tys G)[k]? = some (G.2.1 k, ty) → s.isArrayOf cell ty := by
          intro ty hty
          obtain ⟨-, q⟩ := (F.2.2.2.2.2.1.2 k _ hty).1 0 (fun _ => .null)
          exact ⟨fun z hz => (by rw [hz] at w4; exact absurd w4 (show ¬ true = false by decide)), (by rw [w2]; exact q)⟩
        subst h2
        rcases (show k = 3 ∨ k = 4 ∨ k = 5 by omega) with rfl | rfl | rfl
        · exact W.alen (n := Int32.ofNat 0) F.1 F.2.1 w1 (key _ rfl) (by first | exact w5 | (rw [← w5]; rfl)) rfl rfl hdg kk
        · exact W.alen (n := Int32.ofNat 0) F.1 F.2.1 w1 (key _ rfl) (by first | exact w5 | (rw [← w5]; rfl)) rfl rfl hdg kk
        · exact W.alen (n := Int32.ofNat 0) F.1 F.2.1 w1 (key _ rfl) (by first | exact w5 | (rw [← w5]; rfl)) rfl rfl hdg kk
    rcases (show k = 3 ∨ k = 4 ∨ k = 5 by omega) with rfl | rfl | rfl
    · exact va_alen F.1 F.2.1 F.2.2.2.2.2.1 (hH.1.at h1 hn) 0 3 rfl rfl h2 hdg kk
    · exact va_alen F.1 F.2.1 F.2.2.2.2.2.1 (hH.1.at h1 hn) 0 4 rfl rfl h2 hdg kk
    · exact va_alen F.1 F.2.1 F.2.2.2.2.2.1 (hH.1.at h1 hn) 0 5 rfl rfl h2 hdg kk
theorem mm_own {G : mm_G} {σ : mm_M} {H : Heap} {a k n : Nat} {g : Nat → Int32} (h : mm_P G σ H) (h1 : σ.1 a = some (.inr (.inl (k, n, g)))) : mm_b G ≤ a := by
  rcases (h.2.2 a _ h1).2 with q | q
  · exact q
  · exact q.elim
theorem mm_ownR {G : mm_G} {σ : mm_M} {H : Heap} {a k n : Nat} {g : Nat → Option Nat} (h : mm_P G σ H) (h1 : σ.1 a = some (.inr (.inr (k, n, g)))) (hn : n ≠ 0) : mm_b G ≤ a := by
  rcases (h.2.2 a _ h1).2 with q | q
  · exact q
  · exact absurd q hn
/-- arrays are written -/
theorem mm_iast (F : mm_F p s m args c own cc nL G) (hH : mm_H G s σ H locs) {i x : Int32} (hv : sI σ a 0 i x = some σ') (hdg : decode cc pc = .ok (.iastore, 1))
    (kk : ∀ (H1 : Heap) (locs1 : List Loc), mm_H G s σ' H1 locs1 → W p l e R s m args below meth c H1 locs1 cells slots Q (F0 m (pc + 1) ls rest)) : W p l e R s m args below meth c H locs cells slots Q (F0 m pc ls (.int x :: .int i :: .ref a :: rest)) := by
  obtain ⟨n, g, h1, h2, rfl⟩ := sI_i hv
  refine W.iast F.1 F.2.1 (hH.1.2.2 a _ h1).1 ((F.2.2.2.2.2.1.2 0 _ rfl).1 n (fun j => .int (g j))) (fun q => by cases q) (by show ¬ (i < 0 ∨ (arrV _ _ _).slots.size ≤ _); rw [arrV_size]; exact h2) rfl rfl hdg fun H1 e z oq => ?_
  refine kk H1 _ (hH.set (mm_own hH.1 h1) ?_ z oq (fun x hx => by rw [List.mem_singleton.mp hx]))
  show H1[a]? = some (vp_cell _ _)
  rw [e]
  rw [vp_cell_i, vp_cell_i, arrV_store]
  congr 2
  funext q
  by_cases hq : q = i.toNatClampNeg
  · subst hq
    simp [updV, upd, mm_nar]
  · simp [updV, upd, hq]
theorem mm_zast (F : mm_F p s m args c own cc nL G) (hH : mm_H G s σ H locs) {i x : Int32} (hv : sI σ a 1 i x = some σ') (hdg : decode cc pc = .ok (.bastore, 1))
    (kk : ∀ (H1 : Heap) (locs1 : List Loc), mm_H G s σ' H1 locs1 → W p l e R s m args below meth c H1 locs1 cells slots Q (F0 m (pc + 1) ls rest)) : W p l e R s m args below meth c H locs cells slots Q (F0 m pc ls (.int x :: .int i :: .ref a :: rest)) := by
  obtain ⟨n, g, h1, h2, rfl⟩ := sI_i hv
  refine W.zast F.1 F.2.1 (hH.1.2.2 a _ h1).1 ((F.2.2.2.2.2.1.2 1 _ rfl).1 n (fun j => .int (g j))) (fun q => by cases q) (by show ¬ (i < 0 ∨ (arrV _ _ _).slots.size ≤ _); rw [arrV_size]; exact h2) rfl rfl hdg fun H1 e z oq => ?_
  refine kk H1 _ (hH.set (mm_own hH.1 h1) ?_ z oq (fun x hx => by rw [List.mem_singleton.mp hx]))
  show H1[a]? = some (vp_cell _ _)
  rw [e]
  rw [vp_cell_i, vp_cell_i, arrV_store]
  congr 2
  funext q
  by_cases hq : q = i.toNatClampNeg
  · subst hq
    simp [updV, upd, mm_nar, vp_nar, narrow]
  · simp [updV, upd, hq]
theorem mm_bast (F : mm_F p s m args c own cc nL G) (hH : mm_H G s σ H locs) {i x : Int32} (hv : sI σ a 2 i x = some σ') (hdg : decode cc pc = .ok (.bastore, 1))
    (kk : ∀ (H1 : Heap) (locs1 : List Loc), mm_H G s σ' H1 locs1 → W p l e R s m args below meth c H1 locs1 cells slots Q (F0 m (pc + 1) ls rest)) : W p l e R s m args below meth c H locs cells slots Q (F0 m pc ls (.int x :: .int i :: .ref a :: rest)) := by
  obtain ⟨n, g, h1, h2, rfl⟩ := sI_i hv
  refine W.bast F.1 F.2.1 (hH.1.2.2 a _ h1).1 ((F.2.2.2.2.2.1.2 2 _ rfl).1 n (fun j => .int (g j))) (fun q => by cases q) (by show ¬ (i < 0 ∨ (arrV _ _ _).slots.size ≤ _); rw [arrV_size]; exact h2) rfl rfl hdg fun H1 e z oq => ?_
  refine kk H1 _ (hH.set (mm_own hH.1 h1) ?_ z oq (fun x hx => by rw [List.mem_singleton.mp hx]))
  show H1[a]? = some (vp_cell _ _)
  rw [e]
  rw [vp_cell_i, vp_cell_i, arrV_store]
  congr 2
  funext q
  by_cases hq : q = i.toNatClampNeg
  · subst hq
    simp [updV, upd, mm_nar, vp_nar, narrow]
  · simp [updV, upd, hq]
theorem mm_nm {s : State} {G : mm_G} {H : Heap} (hK : mm_K G s H) {k : Nat} {C : String} (hk : (mm_tys G)[k]? = some (G.2.1 k, .object C)) : ∃ (kA : Class) (comp : ClassId), s.vm.classes[G.2.1 k]? = some kA ∧ kA.kind = .array comp (.object C) ∧ s.vm.findClass C = some comp ∧ s.vm.findClass ("[" ++ (FieldType.object C).toString) = some (G.2.1 k) := (hK.1.2 k _ hk).2
theorem mm_aastN (F : mm_F p s m args c own cc nL G) (hH : mm_H G s σ H locs) {k : Nat} (hk : 3 ≤ k ∧ k < 6) {i : Int32} (hv : sR σ a k i none = some σ') (hdg : decode cc pc = .ok (.aastore, 1))
    (kk : ∀ (H1 : Heap) (locs1 : List Loc), mm_H G s σ' H1 locs1 → W p l e R s m args below meth c H1 locs1 cells slots Q (F0 m (pc + 1) ls rest)) : W p l e R s m args below meth c H locs cells slots Q (F0 m pc ls (.null :: .int i :: .ref a :: rest)) := by
  obtain ⟨n, g, h1, h2, -, rfl⟩ := sR_i hv
  have key : ∀ C : String, (mm_tys G)[k]? = some (G.2.1 k, .object C) → W p l e R s m args below meth c H locs cells slots Q (F0 m pc ls (.null :: .int i :: .ref a :: rest)) := by
    intro C hC
    refine va_WaastN (C := C) F.1 F.2.1 (hH.1.at h1 (mm_pos h2) 0 _ rfl) ((F.2.2.2.2.2.1.2 k _ hC).1 n (fun j => va_rf (g j))) (fun h => by cases h) (by show ¬ (i < 0 ∨ (arrV _ _ _).slots.size ≤ _); rw [arrV_size]; exact h2) rfl rfl hdg fun H1 e z oq => ?_
    refine kk H1 _ (hH.set (mm_ownR hH.1 h1 (mm_pos h2)) ?_ z oq (fun x hx => by rw [List.mem_singleton.mp hx]))
    show H1[a]? = some (vp_cell _ _)
    rw [e]
    rw [vp_cell_q, vp_cell_q, arrV_store]
    congr 2
    funext q
    by_cases hq : q = i.toNatClampNeg
    · subst hq
      simp [updV, va_up, va_rf]
    · simp [updV, va_up, hq]
  rcases (show k = 3 ∨ k = 4 ∨ k = 5 by omega) with rfl | rfl | rfl
  · exact key _ rfl
  · exact key _ rfl
  · exact key _ rfl
/-- an object of class ci goes into an array of kind k -/
theorem mm_aastC (F : mm_F p s m args c own cc nL G) (hH : mm_H G s σ H locs) {k ci v n : Nat} {q : vw_C} {E : String} (hE : (mm_tys G)[k]? = some (G.2.1 k, .object E)) (hq : mm_cl[ci]? = some q) (hcast : q.1 = E ∨ Cond.castable q.1 E ∈ lw_tbl) {fs : List mm_V} {g : Nat → Option Nat} {i : Int32} (h1 : σ.1 a = some (.inr (.inr (k, n, g)))) (h2 : vp_in i n) (hv : σ.1 v = some (.inl (ci, fs))) (hdg : decode cc pc = .ok (.aastore, 1))
    (kk : ∀ (H1 : Heap) (locs1 : List Loc), mm_H G s (sE σ a (.inr (.inr (k, n, va_up g i.toNatClampNeg (some v))))) H1 locs1 → W p l e R s m args below meth c H1 locs1 cells slots Q (F0 m (pc + 1) ls rest)) : W p l e R s m args below meth c H locs cells slots Q (F0 m pc ls (.ref v :: .int i :: .ref a :: rest)) := by
  have hlt : i.toNatClampNeg < n := Nat.not_le.mp fun q => h2 (Or.inr q)
  have h0 : ¬ i < 0 := fun q => h2 (Or.inl q)
  obtain ⟨r', hr', cellV, g1, g2, g3, -⟩ := (hH.1.2.2 v _ hv).1
  have hcls := (F.2.2.2.2.2.1.1 ci q hq).2
  obtain ⟨kA, comp, k1, k2, k3, -⟩ := mm_nm F.2.2.2.2.2 hE
  obtain ⟨kE, hkE, -⟩ := Vm.findClass_spec k3
  obtain ⟨kC, hkC, -⟩ := hcls.2
  have hasg : s.vm.assignable (G.1.1 ci) comp = true := by
    rcases hcast with h | h
    · subst h
      have : comp = G.1.1 ci := Option.some.inj (k3.symm.trans hcls.1)
      rw [this]
      exact va_assign hcls
    · obtain ⟨c3, t3, w1, w2, w3⟩ := Cond.castable_spec (va_Nw.use (A := args) rfl (F.2.2.2.2.2.2.1 _ h rfl))
      have e1 : c3 = G.1.1 ci := Option.some.inj (w1.symm.trans hcls.1)
      have e2 : t3 = comp := Option.some.inj (w2.symm.trans k3)
      rw [← e1, ← e2]
      exact w3
  refine W.aast F.1 F.2.1 (hH.1.at h1 (mm_pos h2) 0 _ rfl) (fun q h => by cases h) (fun h => by cases h) k1 k2 rfl hkE ⟨h0, by show _ < (arrV _ _ _).slots.size; rw [arrV_size]; exact hlt⟩ g1 (fun q h => by rw [g3] at h; cases h) (by rw [g2]; exact hkC) (by rw [g2]; exact hasg) rfl rfl hdg fun H1 e z oq => ?_
  refine kk H1 _ (hH.set (mm_ownR hH.1 h1 (mm_pos h2)) ?_ z oq (fun x hx => by rw [List.mem_singleton.mp hx]))
  show H1[a]? = some (vp_cell _ _)
  rw [e]
  rw [vp_cell_q, vp_cell_q, arrV_store]
  congr 2
  funext q
  by_cases hq : q = i.toNatClampNeg
  · subst hq
    simp [updV, va_up, va_rf]
  · simp [updV, va_up, hq]
end MR
