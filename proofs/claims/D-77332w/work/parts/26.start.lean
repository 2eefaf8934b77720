/-! THE START: the launch's numbers, out of the law's premises -/
set_option maxRecDepth 100000
/-- the memory at the start: the lists' common empty array -/
def mm_0 (n : Nat) (t : Nat × Option Nat × Option Nat) : mm_M := (fun a => if a = t.1 then some (.inr (.inr (5, 0, fun _ => none))) else none, n, t)
section ST
variable {s : State} {args : Array Value}
theorem ms_cl (hts : ∀ w ∈ lw_all, w.before args s = true) (hn : (Cond.instantiable RX14 0).before args s = true) : ∀ c : Nat, ∃ p : ClassId × (Nat → Nat), ∀ q : vw_C, mm_cl[c]? = some q → u_Kn s q.1 q.2.1 q.2.2 p.1 p.2 := by
  have key : ∀ {C : String} {T : u_T} {N n ci : Nat} {ty : Nat → FieldType} {df : List mm_V}, mm_C ci C T N ty df → (Cond.instantiable C n).before args s = true → ∃ p : ClassId × (Nat → Nat), ∀ q : vw_C, mm_cl[ci]? = some q → u_Kn s q.1 q.2.1 q.2.2 p.1 p.2 := by
    intro C T N n ci ty df hC hi
    obtain ⟨cC, iS, h⟩ := u_known hts hC.2.1 hi
    exact ⟨(cC, iS), fun q hq => by rw [hC.1] at hq; cases hq; exact h⟩
  intro c
  by_cases h : c < 16
  · rcases (show c = 0 ∨ c = 1 ∨ c = 2 ∨ c = 3 ∨ c = 4 ∨ c = 5 ∨ c = 6 ∨ c = 7 ∨ c = 8 ∨ c = 9 ∨ c = 10 ∨ c = 11 ∨ c = 12 ∨ c = 13 ∨ c = 14 ∨ c = 15 by omega) with rfl | rfl | rfl | rfl | rfl | rfl | rfl | rfl | rfl | rfl | rfl | rfl | rfl | rfl | rfl | rfl
    · exact key mc_0 (hts _ q91)
    · exact key mc_1 (hts _ q99)
    · exact key mc_2 (hts _ q1038)
    · exact key mc_3 (hts _ q245)
    · exact key mc_4 (hts _ q452)
    · exact key mc_5 (hts _ q581)
    · exact key mc_6 (hts _ q675)
    · exact key mc_7 (hts _ q728)
    · exact key mc_8 (hts _ q779)
    · exact key mc_9 (hts _ q842)
    · exact key mc_10 (hts _ q855)
    · exact key mc_11 (hts _ q876)
    · exact key mc_12 (hts _ q889)
    · exact key mc_13 (hts _ q905)
    · exact key mc_14 hn
    · exact key mc_15 (hts _ q105)
  · exact ⟨(0, fun _ => 0), fun q hq => absurd (show c < 16 from (List.getElem?_eq_some_iff.mp hq).1) h⟩
abbrev ms_l : List FieldType := [.int, .boolean, .byte, .object RX3, .object RX1, .object "java/lang/Object"]
theorem ms_ty (htb : ∀ w ∈ lw_tbl, w.before args s = true) (hts : ∀ w ∈ lw_all, w.before args s = true) : ∀ k : Nat, ∃ cA : ClassId, ∀ ty : FieldType, ms_l[k]? = some ty → ArrOfT s cA ty ∧ va_RA s cA ty := by
  have k1 : ∀ {ty : FieldType}, (Cond.arrayClass ty).before args s = true → ∃ c, s.vm.findClass ("[" ++ ty.toString) = some c ∧ ArrOfT s c ty := by
    intro ty h
    obtain ⟨c, kk, comp, h1, h2, h3⟩ := Cond.arrayClass_spec h
    exact ⟨c, h1, fun n z => ⟨fun k h => (by cases h), kk, h2, comp, h3⟩⟩
  have k2 : ∀ {C : String}, (Cond.arrayOver (.object C)).before args s = true → ∃ c, ArrOfT s c (.object C) ∧ va_RA s c (.object C) := by
    intro C h
    obtain ⟨comp, c, kk, h1, h2, h3, h4, h5⟩ := Cond.arrayOver_spec h
    exact ⟨c, fun n z => ⟨fun k h => (by cases h), kk, h3, comp, h4⟩, kk, comp, h3, h4, h1, h5⟩
  intro k
  by_cases h : k < 6
  · rcases (show k = 0 ∨ k = 1 ∨ k = 2 ∨ k = 3 ∨ k = 4 ∨ k = 5 by omega) with rfl | rfl | rfl | rfl | rfl | rfl
    · obtain ⟨c, h1, h2⟩ := k1 (hts _ q181)
      exact ⟨c, fun ty hty => by cases hty; exact ⟨h2, h1⟩⟩
    · obtain ⟨c, h1, h2⟩ := k1 (hts _ q1102)
      exact ⟨c, fun ty hty => by cases hty; exact ⟨h2, h1⟩⟩
    · obtain ⟨c, h1, h2⟩ := k1 (hts _ q211)
      exact ⟨c, fun ty hty => by cases hty; exact ⟨h2, h1⟩⟩
    · obtain ⟨c, h1⟩ := k2 (htb _ q131)
      exact ⟨c, fun ty hty => by cases hty; exact h1⟩
    · obtain ⟨c, h1⟩ := k2 (htb _ q183)
      exact ⟨c, fun ty hty => by cases hty; exact h1⟩
    · obtain ⟨c, h1⟩ := k2 (htb _ q369)
      exact ⟨c, fun ty hty => by cases hty; exact h1⟩
  · exact ⟨0, fun ty hty => absurd (show k < 6 from (List.getElem?_eq_some_iff.mp hty).1) h⟩
theorem ms_nk (htb : ∀ w ∈ lw_tbl, w.before args s = true) : mm_nk s := by
  intro w hw ho
  have hz := htb w hw
  cases w with
  | fieldLinkNest a b c d e f => exact va_any rfl hz
  | methodLinkNest a b c d => exact va_any rfl hz
  | castable a b => exact va_any rfl hz
  | declares a => exact va_any rfl hz
  | _ => simp [mm_ok] at ho
theorem ms_fw (htb : ∀ w ∈ lw_tbl, w.before args s = true) : mm_fw s := by
  have hd : (Cond.declares mm_xc).before args s = true := htb _ q940
  have hf : (Cond.interfaceMethod mm_xc.cls mm_xc.cls mm_xc.name mm_xc.desc).before args s = true := htb _ q939
  exact ⟨va_Fw.of hd hf (htb _ q945) (htb _ q943) (htb _ q941), va_Fw.of hd hf (htb _ q973) (htb _ q971) (htb _ q969), va_Fw.of hd hf (htb _ q980) (htb _ q978) (htb _ q976), va_Fw.of hd hf (htb _ q966) (htb _ q964) (htb _ q962), va_Fw.of hd hf (htb _ q959) (htb _ q957) (htb _ q955), va_Fw.of hd hf (htb _ q952) (htb _ q950) (htb _ q948)⟩
/-- a static that holds an object of a class -/
theorem ms_pt {A : Nat → Prop} {C n d nm : String} (hl : (Cond.laysStatic C n d).before args s = true) (hini : (Cond.initialized C).before args s = true) (hex : (Cond.exactly (.static C n d) nm).before args s = true) (hA : ∀ a : Nat, a < s.heap.size → ¬ A a) : ∃ t : Nat, va_Z C n d (.ref t) A s s.heap ∧ va_O nm t A s s.heap := by
  obtain ⟨a, c, cell, k, e1, -⟩ := Cond.exactly_spec (args := args) (first := s) (o := none) (s := s) (idx := []) (t := .static C n d) (cls := nm) hex
  exact ⟨a, va_Zof hl hini e1 hA, va_Oof hex e1 hA⟩
theorem ms_rf {A : Nat → Prop} {C n d : String} (hl : (Cond.laysStatic C n d).before args s = true) (hini : (Cond.initialized C).before args s = true) (hr : (Cond.isRef (.static C n d)).before args s = true) (hA : ∀ a : Nat, a < s.heap.size → ¬ A a) : ∃ r : Option Nat, va_Z C n d (va_rf r) A s s.heap := by
  obtain ⟨v, hv, hi⟩ := Cond.isRef_spec hr
  cases v with
  | null => exact ⟨none, va_Zof hl hini hv hA⟩
  | ref a => exact ⟨some a, va_Zof hl hini hv hA⟩
  | _ => cases hi
end ST
set_option maxHeartbeats 4000000 in
/-- the machine side's premises hold at the law's entry -/
theorem ms_start {s : State} {b : Nat} (htb : ∀ w ∈ lw_tbl, w.before #[Value.ref b] s = true) (hgv : (Jvm.Cond.and given_1 narrow_1).before #[Value.ref b] s = true) : ∃ G : mm_G, mm_b G = s.heap.size ∧ mm_K G s s.heap ∧ G.2.2.2.2.1.1 < s.heap.size ∧ mm_P G (mm_0 s.heap.size G.2.2.2.2.1) s.heap := by
  have hts : ∀ w ∈ lw_all, w.before #[Value.ref b] s = true := fun w h => htb w (List.mem_filter.mp h).1
  have hs := flat_of_before _ hgv
  have hA : ∀ a : Nat, a < s.heap.size → ¬ (fun q : Nat => s.heap.size ≤ q) a := fun a h q => Nat.not_le.mpr h q
  obtain ⟨f, hf⟩ := Classical.axiomOfChoice (ms_cl hts (by first | exact hts _ q918 | exact htb _ q918))
  obtain ⟨g, hg⟩ := Classical.axiomOfChoice (ms_ty htb hts)
  have hpt : ∀ i : Nat, ∃ t : Nat, i < 8 → va_Z "IslandHeap$Part" (mm_pn i) "LIslandHeap$Part;" (.ref t) (fun q : Nat => s.heap.size ≤ q) s s.heap ∧ va_O (mm_pc i) t (fun q : Nat => s.heap.size ≤ q) s s.heap := by
    intro i
    by_cases h : i < 8
    · have key : ∃ t : Nat, va_Z "IslandHeap$Part" (mm_pn i) "LIslandHeap$Part;" (.ref t) (fun q : Nat => s.heap.size ≤ q) s s.heap ∧ va_O (mm_pc i) t (fun q : Nat => s.heap.size ≤ q) s s.heap := by
        rcases (show i = 0 ∨ i = 1 ∨ i = 2 ∨ i = 3 ∨ i = 4 ∨ i = 5 ∨ i = 6 ∨ i = 7 by omega) with rfl | rfl | rfl | rfl | rfl | rfl | rfl | rfl
        · exact ms_pt (htb _ q397) (hts _ q76) (hs (.exactly (.static "IslandHeap$Part" "ADDRESS" "LIslandHeap$Part;") "IslandHeap$Part$1") (by decide +kernel)) hA
        · exact ms_pt (htb _ q399) (hts _ q76) (hs (.exactly (.static "IslandHeap$Part" "SIZE" "LIslandHeap$Part;") "IslandHeap$Part$2") (by decide +kernel)) hA
        · exact ms_pt (htb _ q401) (hts _ q76) (hs (.exactly (.static "IslandHeap$Part" "FIELDS" "LIslandHeap$Part;") "IslandHeap$Part$3") (by decide +kernel)) hA
        · exact ms_pt (htb _ q403) (hts _ q76) (hs (.exactly (.static "IslandHeap$Part" "WORDS_OF_DATA" "LIslandHeap$Part;") "IslandHeap$Part$4") (by decide +kernel)) hA
        · exact ms_pt (htb _ q405) (hts _ q76) (hs (.exactly (.static "IslandHeap$Part" "PINNED" "LIslandHeap$Part;") "IslandHeap$Part$5") (by decide +kernel)) hA
        · exact ms_pt (htb _ q407) (hts _ q76) (hs (.exactly (.static "IslandHeap$Part" "AGE" "LIslandHeap$Part;") "IslandHeap$Part$6") (by decide +kernel)) hA
        · exact ms_pt (htb _ q409) (hts _ q76) (hs (.exactly (.static "IslandHeap$Part" "REFERENCES" "LIslandHeap$Part;") "IslandHeap$Part$7") (by decide +kernel)) hA
        · exact ms_pt (htb _ q411) (hts _ q76) (hs (.exactly (.static "IslandHeap$Part" "LIVE" "LIslandHeap$Part;") "IslandHeap$Part$8") (by decide +kernel)) hA
      obtain ⟨t, ht⟩ := key
      exact ⟨t, fun _ => ht⟩
    · exact ⟨0, fun q => absurd q h⟩
  obtain ⟨pt, hp⟩ := Classical.axiomOfChoice hpt
  obtain ⟨us, hus⟩ := ms_rf (A := fun q : Nat => s.heap.size ≤ q) (htb _ q803) (hts _ q81) (hs (.isRef (.static "java/lang/Throwable" "UNASSIGNED_STACK" "[Ljava/lang/StackTraceElement;")) (by decide +kernel)) hA
  obtain ⟨sp, hsp⟩ := ms_rf (A := fun q : Nat => s.heap.size ≤ q) (htb _ q805) (hts _ q81) (hs (.isRef (.static "java/lang/Throwable" "SUPPRESSED_SENTINEL" "Ljava/util/List;")) (by decide +kernel)) hA
  obtain ⟨mi, hmi⟩ := va_Mi.of (hs (.isRef (.mirror "[Ljava/lang/Object;")) (by decide +kernel))
  have hex := hs (.exactly (.static "java/util/ArrayList" "DEFAULTCAPACITY_EMPTY_ELEMENTDATA" "[Ljava/lang/Object;") "[Ljava/lang/Object;") (by decide +kernel)
  have hao := hs (.arrayOf (.static "java/util/ArrayList" "DEFAULTCAPACITY_EMPTY_ELEMENTDATA" "[Ljava/lang/Object;") (.object "java/lang/Object")) (by decide +kernel)
  have hlen := hs (.eq (.length (.static "java/util/ArrayList" "DEFAULTCAPACITY_EMPTY_ELEMENTDATA" "[Ljava/lang/Object;")) (.int 0)) (by decide +kernel)
  obtain ⟨e0, c0, cell, k0, x1, x2, x3, x4, x5, x6, -⟩ := Cond.exactly_spec (args := #[Value.ref b]) (first := s) (o := none) (s := s) (idx := []) hex
  have hvm := (Cond.arrayOf_spec hao x1 x3).2
  obtain ⟨y, l1, l2⟩ := Cond.eq_one hlen
  obtain ⟨a2, cell2, z1, z2, z3⟩ := Term.length_spec l1
  have hsz : Int32.ofNat cell.slots.size = 0 := by
    cases x1.symm.trans z1
    cases x3.symm.trans (State.arrayAt?_spec z2).1
    have h1 : y = .int 0 := (Option.some.inj l2).symm
    rw [h1] at z3
    exact (Value.int.inj z3).symm
  have hlt : e0 < s.heap.size := (Array.getElem?_eq_some_iff.mp x3).1
  have hc0 : cell.cls = g 5 := by
    have h1 := va_nmO (hg 5 _ rfl).2 (nm := "[Ljava/lang/Object;") rfl
    rw [h1] at x2
    rw [x6]
    exact (Option.some.inj x2).symm
  refine ⟨((fun c => (f c).1, fun c => (f c).2), g, pt, s.heap.size, (e0, us, sp), mi), rfl, ⟨⟨fun c q hq => hf c q hq, fun k q hq => ?_⟩, ms_nk htb, ⟨va_AO.of (htb _ q131), va_AO.of (htb _ q183), va_AO.of (htb _ q369)⟩, ⟨fun i hi => hp i hi, va_Zof (htb _ q117) (hts _ q66) x1 hA, hus, hsp⟩, ⟨hmi, va_Dc.of (htb _ q1380)⟩, ms_fw htb⟩, hlt, ⟨rfl, ⟨Nat.le_refl _, rfl⟩, fun a e he => ?_⟩⟩
  · by_cases h : k < 6
    · rcases (show k = 0 ∨ k = 1 ∨ k = 2 ∨ k = 3 ∨ k = 4 ∨ k = 5 by omega) with rfl | rfl | rfl | rfl | rfl | rfl <;> cases hq <;> exact hg _ _ rfl
    · exact absurd (show k < 6 from (List.getElem?_eq_some_iff.mp hq).1) h
  · unfold mm_0 at he
    dsimp only at he
    split at he
    · rename_i ha
      cases he
      subst ha
      exact ⟨Or.inr ⟨rfl, cell, x3, hc0, hvm, x5, hsz⟩, Or.inr rfl⟩
    · cases he
