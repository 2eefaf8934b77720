/-! THE METHODS AS FUNCTIONS over the pure memory, printed by wip/D-77332w/gen -/
set_option maxRecDepth 100000
/-! java/util/AbstractCollection.<init>()V -/
def f_J0_init (h0 : Nat) (σ : mm_M) : Option (mm_M) :=
  some σ
/-! java/util/AbstractList.<init>()V -/
def f_J1_init (h0 : Nat) (σ : mm_M) : Option (mm_M) :=
  (f_J0_init h0 σ).bind fun σ1 =>
  (pF σ1 h0 15 0 (vI (0 : Int32))).bind fun σ2 =>
  some σ2
/-! java/util/ArrayList.<init>()V -/
def f_J2_init (h0 : Nat) (σ : mm_M) : Option (mm_M) :=
  (f_J1_init h0 σ).bind fun σ1 =>
  (pF σ1 h0 15 1 (vR (some σ1.2.2.1))).bind fun σ2 =>
  some σ2
/-! java/util/ArrayList.size()I -/
def f_J2_size (h0 : Nat) (σ : mm_M) : Option (Int32) :=
  (gI σ h0 15 2).bind fun v1 =>
  some v1
/-! jdk/internal/util/Preconditions.checkIndex(IILjava/util/function/BiFunction;)I -/
def f_J4_checkIndex (x0 : Int32) (x1 : Int32) (r2 : Option Nat) (σ : mm_M) : Option (Int32) :=
  if x0 < 0 then (
    none)
  else (
    if x0 < x1 then (
      some x0)
    else (
      none))
/-! java/util/Objects.checkIndex(II)I -/
def f_J3_checkIndex (x0 : Int32) (x1 : Int32) (σ : mm_M) : Option (Int32) :=
  (f_J4_checkIndex x0 x1 none σ).bind fun v1 =>
  some v1
/-! java/util/ArrayList.elementData(I)Ljava/lang/Object; -/
def f_J2_elementData (h0 : Nat) (x1 : Int32) (σ : mm_M) : Option (Option Nat) :=
  (gA σ h0 15 1).bind fun q1 =>
  (aR σ q1 5 x1).bind fun p2 =>
  some p2
/-! java/util/ArrayList.get(I)Ljava/lang/Object; -/
def f_J2_get (h0 : Nat) (x1 : Int32) (σ : mm_M) : Option (Option Nat) :=
  (gI σ h0 15 2).bind fun v1 =>
  (f_J3_checkIndex x1 v1 σ).bind fun v2 =>
  (ck σ h0 15).bind fun _ =>
  (f_J2_elementData h0 x1 σ).bind fun p3 =>
  some p3
/-! java/util/ArrayList.rangeCheckForAdd(I)V -/
def f_J2_rangeCheckForAdd (h0 : Nat) (x1 : Int32) (σ : mm_M) : Option (mm_M) :=
  (gI σ h0 15 2).bind fun v1 =>
  if v1 < x1 then (
    none)
  else (
    if 0 ≤ x1 then (
      some σ)
    else (
      none))
/-! jdk/internal/util/ArraysSupport.hugeLength(II)I -/
def f_J5_hugeLength (x0 : Int32) (x1 : Int32) (σ : mm_M) : Option (Int32) :=
  if 0 ≤ (x0 + x1) then (
    if (2147483639 : Int32) < (x0 + x1) then (
      some (x0 + x1))
    else (
      some (2147483639 : Int32)))
  else (
    none)
/-! jdk/internal/util/ArraysSupport.newLength(III)I -/
def f_J5_newLength (x0 : Int32) (x1 : Int32) (x2 : Int32) (σ : mm_M) : Option (Int32) :=
  if (x0 + (if x1 < x2 then x2 else x1)) ≤ (0 : Int32) then (
    (f_J5_hugeLength x0 x1 σ).bind fun v2 =>
    some v2)
  else (
    if (2147483639 : Int32) < (x0 + (if x1 < x2 then x2 else x1)) then (
      (f_J5_hugeLength x0 x1 σ).bind fun v4 =>
      some v4)
    else (
      some (x0 + (if x1 < x2 then x2 else x1))))
/-! java/util/Arrays.copyOf([Ljava/lang/Object;ILjava/lang/Class;)[Ljava/lang/Object; -/
def g_J7_copyOf_2_24 (a0 : Nat) (x1 : Int32)  (t0 : Nat) (σ : mm_M) : Option (Nat × mm_M) :=
  (aN σ a0).bind fun v1 =>
  (cR σ a0 (0 : Int32) t0 (0 : Int32) (if x1 < v1 then x1 else v1)).bind fun σ2 =>
  some (t0, σ2)
def f_J7_copyOf_2 (a0 : Nat) (x1 : Int32) (σ : mm_M) : Option (Nat × mm_M) :=
  b2 (nQ σ 5 x1 250) fun q2 σ1 =>
  g_J7_copyOf_2_24 a0 x1 q2 σ1
/-! java/util/Arrays.copyOf([Ljava/lang/Object;I)[Ljava/lang/Object; -/
def f_J7_copyOf (a0 : Nat) (x1 : Int32) (σ : mm_M) : Option (Nat × mm_M) :=
  (ckQ σ a0).bind fun _ =>
  b2 (f_J7_copyOf_2 a0 x1 σ) fun q1 σ2 =>
  some (q1, σ2)
/-! java/util/ArrayList.grow(I)[Ljava/lang/Object; -/
def g_J2_grow_2_20 (h0 : Nat) (x1 : Int32) (x2 : Int32)  (σ : mm_M) : Option (Nat × mm_M) :=
  (f_J5_newLength x2 (x1 - x2) (x2 >>> ((1 : Int32) &&& 31)) σ).bind fun v1 =>
  (gA σ h0 15 1).bind fun q2 =>
  b2 (f_J7_copyOf q2 v1 σ) fun q3 σ4 =>
  (pF σ4 h0 15 1 (vR (some q3))).bind fun σ5 =>
  some (q3, σ5)
def f_J2_grow_2 (h0 : Nat) (x1 : Int32) (σ : mm_M) : Option (Nat × mm_M) :=
  (gA σ h0 15 1).bind fun q1 =>
  (aN σ q1).bind fun v2 =>
  if 0 < v2 then (
    g_J2_grow_2_20 h0 x1 v2 σ)
  else (
    (gA σ h0 15 1).bind fun q4 =>
    if (some q4) = (some σ.2.2.1) then (
      b2 (nQ σ 5 (if (10 : Int32) < x1 then x1 else (10 : Int32)) 10) fun q7 σ6 =>
      (pF σ6 h0 15 1 (vR (some q7))).bind fun σ8 =>
      some (q7, σ8))
    else (
      g_J2_grow_2_20 h0 x1 v2 σ))
/-! java/util/ArrayList.grow()[Ljava/lang/Object; -/
def f_J2_grow (h0 : Nat) (σ : mm_M) : Option (Nat × mm_M) :=
  (gI σ h0 15 2).bind fun v1 =>
  (ck σ h0 15).bind fun _ =>
  b2 (f_J2_grow_2 h0 (v1 + (1 : Int32)) σ) fun q2 σ3 =>
  some (q2, σ3)
/-! java/util/ArrayList.add(ILjava/lang/Object;)V -/
def g_J2_add_38 (h0 : Nat) (x1 : Int32) (a2 : Nat) (x3 : Int32) (a4 : Nat)  (σ : mm_M) : Option (mm_M) :=
  (cR σ a4 x1 a4 (x1 + (1 : Int32)) (x3 - x1)).bind fun σ1 =>
  (sR σ1 a4 5 x1 (some a2)).bind fun σ2 =>
  (pF σ2 h0 15 2 (vI (x3 + (1 : Int32)))).bind fun σ3 =>
  some σ3
def f_J2_add (h0 : Nat) (x1 : Int32) (a2 : Nat) (σ : mm_M) : Option (mm_M) :=
  (ck σ h0 15).bind fun _ =>
  (f_J2_rangeCheckForAdd h0 x1 σ).bind fun σ1 =>
  (gI σ1 h0 15 0).bind fun v2 =>
  (pF σ1 h0 15 0 (vI (v2 + (1 : Int32)))).bind fun σ3 =>
  (gI σ3 h0 15 2).bind fun v4 =>
  (gA σ3 h0 15 1).bind fun q5 =>
  (aN σ3 q5).bind fun v6 =>
  if v4 = v6 then (
    (ck σ3 h0 15).bind fun _ =>
    b2 (f_J2_grow h0 σ3) fun q8 σ9 =>
    g_J2_add_38 h0 x1 a2 v4 q8 σ9)
  else (
    g_J2_add_38 h0 x1 a2 v4 q5 σ3)
/-! java/util/ArrayList.fastRemove([Ljava/lang/Object;I)V -/
def f_J2_fastRemove (h0 : Nat) (a1 : Nat) (x2 : Int32) (σ : mm_M) : Option (mm_M) :=
  (gI σ h0 15 0).bind fun v1 =>
  (pF σ h0 15 0 (vI (v1 + (1 : Int32)))).bind fun σ2 =>
  (gI σ2 h0 15 2).bind fun v3 =>
  if (v3 - (1 : Int32)) ≤ x2 then (
    (pF σ2 h0 15 2 (vI (v3 - (1 : Int32)))).bind fun σ5 =>
    (sR σ5 a1 5 (v3 - (1 : Int32)) none).bind fun σ6 =>
    some σ6)
  else (
    (cR σ2 a1 (x2 + (1 : Int32)) a1 x2 ((v3 - (1 : Int32)) - x2)).bind fun σ7 =>
    (pF σ7 h0 15 2 (vI (v3 - (1 : Int32)))).bind fun σ8 =>
    (sR σ8 a1 5 (v3 - (1 : Int32)) none).bind fun σ9 =>
    some σ9)
/-! java/util/ArrayList.remove(I)Ljava/lang/Object; -/
def f_J2_remove (h0 : Nat) (x1 : Int32) (σ : mm_M) : Option (Option Nat × mm_M) :=
  (gI σ h0 15 2).bind fun v1 =>
  (f_J3_checkIndex x1 v1 σ).bind fun v2 =>
  (gA σ h0 15 1).bind fun q3 =>
  (aR σ q3 5 x1).bind fun p4 =>
  (ck σ h0 15).bind fun _ =>
  (f_J2_fastRemove h0 q3 x1 σ).bind fun σ5 =>
  some (p4, σ5)
/-! java/util/ArrayList.add(Ljava/lang/Object;[Ljava/lang/Object;I)V -/
def g_J2_add_3_11 (h0 : Nat) (a1 : Nat) (x3 : Int32) (a2 : Nat)  (σ : mm_M) : Option (mm_M) :=
  (sR σ a2 5 x3 (some a1)).bind fun σ1 =>
  (pF σ1 h0 15 2 (vI (x3 + (1 : Int32)))).bind fun σ2 =>
  some σ2
def f_J2_add_3 (h0 : Nat) (a1 : Nat) (a2 : Nat) (x3 : Int32) (σ : mm_M) : Option (mm_M) :=
  (aN σ a2).bind fun v1 =>
  if x3 = v1 then (
    (ck σ h0 15).bind fun _ =>
    b2 (f_J2_grow h0 σ) fun q3 σ4 =>
    g_J2_add_3_11 h0 a1 x3 q3 σ4)
  else (
    g_J2_add_3_11 h0 a1 x3 a2 σ)
/-! java/util/ArrayList.add(Ljava/lang/Object;)Z -/
def f_J2_add_2 (h0 : Nat) (a1 : Nat) (σ : mm_M) : Option (Int32 × mm_M) :=
  (gI σ h0 15 0).bind fun v1 =>
  (pF σ h0 15 0 (vI (v1 + (1 : Int32)))).bind fun σ2 =>
  (gA σ2 h0 15 1).bind fun q3 =>
  (gI σ2 h0 15 2).bind fun v4 =>
  (ck σ2 h0 15).bind fun _ =>
  (f_J2_add_3 h0 a1 q3 v4 σ2).bind fun σ5 =>
  some ((1 : Int32), σ5)
/-! java/lang/Throwable.<init>(Ljava/lang/String;Ljava/lang/Throwable;ZZ)V -/
def g_J8_init_2_41 (h0 : Nat) (r1 : Option Nat) (r2 : Option Nat) (x3 : Int32) (x4 : Int32)   (σ : mm_M) : Option (mm_M) :=
  (pF σ h0 8 3 (vR r1)).bind fun σ1 =>
  (pF σ1 h0 8 0 (vR r2)).bind fun σ2 =>
  if x3 = 0 then (
    (pF σ2 h0 8 2 (vR none)).bind fun σ4 =>
    some σ4)
  else (
    some σ2)
def f_J8_init_2 (h0 : Nat) (r1 : Option Nat) (r2 : Option Nat) (x3 : Int32) (x4 : Int32) (σ : mm_M) : Option (mm_M) :=
  (pF σ h0 8 0 (vR (some h0))).bind fun σ1 =>
  (pF σ1 h0 8 1 (vR σ1.2.2.2.1)).bind fun σ2 =>
  (pF σ2 h0 8 2 (vR σ2.2.2.2.2)).bind fun σ3 =>
  if x4 = 0 then (
    (pF σ3 h0 8 1 (vR none)).bind fun σ5 =>
    g_J8_init_2_41 h0 r1 r2 x3 x4 σ5)
  else (
    none)
/-! java/lang/Exception.<init>(Ljava/lang/String;Ljava/lang/Throwable;ZZ)V -/
def f_J9_init (h0 : Nat) (r1 : Option Nat) (r2 : Option Nat) (x3 : Int32) (x4 : Int32) (σ : mm_M) : Option (mm_M) :=
  (f_J8_init_2 h0 r1 r2 x3 x4 σ).bind fun σ1 =>
  some σ1
/-! IslandHeap$Heap.<init>(II)V -/
noncomputable def g_X1_init_51 (h0 : Nat) (x1 : Int32) (x2 : Int32) (x3 : Int32)  (σ : mm_M) : Option (((Int32 × mm_M) ⊕ (Int32 × mm_M)) ⊕ (mm_M)) :=
  if (6 : Int32) ≤ x3 then (
    some (.inl (.inr ((0 : Int32), σ))))
  else (
    (gA σ h0 1 4).bind fun q2 =>
    (sI σ q2 0 x3 (-1 : Int32)).bind fun σ3 =>
    some (.inl (.inl ((x3 + (1 : Int32)), σ3))))
noncomputable def g_X1_init_72 (h0 : Nat) (x1 : Int32) (x2 : Int32) (x3 : Int32)  (σ : mm_M) : Option (((Int32 × mm_M) ⊕ (Int32 × mm_M)) ⊕ (mm_M)) :=
  if (4 : Int32) ≤ x3 then (
    (pF σ h0 1 0 (vI x1)).bind fun σ2 =>
    (pF σ2 h0 1 1 (vI x2)).bind fun σ3 =>
    some (.inr σ3))
  else (
    (gA σ h0 1 5).bind fun q4 =>
    (sI σ q4 0 x3 (-1 : Int32)).bind fun σ5 =>
    some (.inl (.inr ((x3 + (1 : Int32)), σ5))))
noncomputable def g_X1_init_0 (h0 : Nat) (x1 : Int32) (x2 : Int32)   (σ : mm_M) : Option (((Int32 × mm_M) ⊕ (Int32 × mm_M)) ⊕ (mm_M)) :=
  b2 (nO σ 15 df_15) fun q2 σ1 =>
  (f_J2_init q2 σ1).bind fun σ3 =>
  (pF σ3 h0 1 2 (vR (some q2))).bind fun σ4 =>
  b2 (nQ σ4 3 (200 : Int32) 200) fun q6 σ5 =>
  (pF σ5 h0 1 3 (vR (some q6))).bind fun σ7 =>
  b2 (nA σ7 0 (6 : Int32) 6) fun q9 σ8 =>
  (pF σ8 h0 1 4 (vR (some q9))).bind fun σ10 =>
  b2 (nA σ10 0 (4 : Int32) 4) fun q12 σ11 =>
  (pF σ11 h0 1 5 (vR (some q12))).bind fun σ13 =>
  b2 (nA σ13 0 (200 : Int32) 200) fun q15 σ14 =>
  (pF σ14 h0 1 10 (vR (some q15))).bind fun σ16 =>
  some (.inl (.inl ((0 : Int32), σ16)))
noncomputable def s_X1_init (h0 : Nat) (x1 : Int32) (x2 : Int32) : (Int32 × mm_M) ⊕ (Int32 × mm_M) → Option (((Int32 × mm_M) ⊕ (Int32 × mm_M)) ⊕ (mm_M)) := fun s => match s with
  | (.inl s) => g_X1_init_51 h0 x1 x2 s.1 s.2
  | (.inr s) => g_X1_init_72 h0 x1 x2 s.1 s.2
noncomputable def f_X1_init (h0 : Nat) (x1 : Int32) (x2 : Int32) (σ : mm_M) : Option (mm_M) := lgo (s_X1_init h0 x1 x2) (g_X1_init_0 h0 x1 x2 σ)
/-! IslandHeap.<init>()V -/
noncomputable def f_X0_init (h0 : Nat) (σ : mm_M) : Option (mm_M) :=
  b2 (nO σ 1 df_1) fun q2 σ1 =>
  (f_X1_init q2 (100 : Int32) (8 : Int32) σ1).bind fun σ3 =>
  (pF σ3 h0 0 0 (vR (some q2))).bind fun σ4 =>
  b2 (nQ σ4 3 (200 : Int32) 200) fun q6 σ5 =>
  (pF σ5 h0 0 1 (vR (some q6))).bind fun σ7 =>
  b2 (nA σ7 2 (80 : Int32) 80) fun q9 σ8 =>
  (pF σ8 h0 0 2 (vR (some q9))).bind fun σ10 =>
  (pF σ10 h0 0 4 (vI (-1 : Int32))).bind fun σ11 =>
  b2 (nQ σ11 4 (2 : Int32) 2) fun q13 σ12 =>
  (pF σ12 h0 0 5 (vR (some q13))).bind fun σ14 =>
  some σ14
/-! IslandHeap.isIn(III)Z -/
def f_X0_isIn (x0 : Int32) (x1 : Int32) (x2 : Int32) (σ : mm_M) : Option (Int32) :=
  if x0 < x1 then (
    some (0 : Int32))
  else (
    if x2 < x0 then (
      some (0 : Int32))
    else (
      some (1 : Int32)))
/-! IslandHeap.reset(II)I -/
noncomputable def f_X0_reset (h0 : Nat) (x1 : Int32) (x2 : Int32) (σ : mm_M) : Option (Int32 × mm_M) :=
  (f_X0_isIn x1 (8 : Int32) (200 : Int32) σ).bind fun v1 =>
  if v1 = 0 then (
    some ((-1000002 : Int32), σ))
  else (
    (f_X0_isIn x2 (1 : Int32) (20 : Int32) σ).bind fun v3 =>
    if v3 = 0 then (
      some ((-1000002 : Int32), σ))
    else (
      b2 (nO σ 1 df_1) fun q6 σ5 =>
      (f_X1_init q6 x1 x2 σ5).bind fun σ7 =>
      (pF σ7 h0 0 0 (vR (some q6))).bind fun σ8 =>
      some (x1, σ8)))
/-! IslandHeap$Heap.holeEnd(I)I -/
noncomputable def g_X1_holeEnd_2 (h0 : Nat) (x1 : Int32) (x2 : Int32)  (σ : mm_M) : Option (((Int32)) ⊕ (Int32)) :=
  (gI σ h0 1 0).bind fun v1 =>
  if v1 ≤ x2 then (
    some (.inr x2))
  else (
    (gA σ h0 1 3).bind fun q3 =>
    (aR σ q3 3 x2).bind fun p4 =>
    mt p4 (
      some (.inl (x2 + (1 : Int32)))) (fun q5 =>
      some (.inr x2)))
noncomputable def g_X1_holeEnd_0 (h0 : Nat) (x1 : Int32)   (σ : mm_M) : Option (((Int32)) ⊕ (Int32)) :=
  some (.inl x1)
noncomputable def s_X1_holeEnd (h0 : Nat) (x1 : Int32) (σ : mm_M) : (Int32) → Option (((Int32)) ⊕ (Int32)) := fun s => g_X1_holeEnd_2 h0 x1 s σ
noncomputable def f_X1_holeEnd (h0 : Nat) (x1 : Int32) (σ : mm_M) : Option (Int32) := lgo (s_X1_holeEnd h0 x1 σ) (g_X1_holeEnd_0 h0 x1 σ)
/-! IslandHeap$Thing.size()I -/
def f_X3_size (h0 : Nat) (σ : mm_M) : Option (Int32) :=
  (gA σ h0 3 1).bind fun q1 =>
  (aN σ q1).bind fun v2 =>
  (gA σ h0 3 2).bind fun q3 =>
  (aN σ q3).bind fun v4 =>
  some (((1 : Int32) + v2) + v4)
/-! IslandHeap$Thing.end()I -/
def f_X3_end (h0 : Nat) (σ : mm_M) : Option (Int32) :=
  (gI σ h0 3 0).bind fun v1 =>
  (ck σ h0 3).bind fun _ =>
  (f_X3_size h0 σ).bind fun v2 =>
  some (v1 + v2)
/-! IslandHeap$Heap.firstHole(I)I -/
noncomputable def g_X1_firstHole_2 (h0 : Nat) (x1 : Int32) (x2 : Int32)  (σ : mm_M) : Option (((Int32)) ⊕ (Int32)) :=
  (gI σ h0 1 0).bind fun v1 =>
  if v1 ≤ x2 then (
    some (.inr (-1 : Int32)))
  else (
    (ck σ h0 1).bind fun _ =>
    (f_X1_holeEnd h0 x2 σ).bind fun v3 =>
    if (v3 - x2) < x1 then (
      if v3 = x2 then (
        (gA σ h0 1 3).bind fun q6 =>
        (aR σ q6 3 x2).bind fun p7 =>
        (p7).bind fun q8 =>
        (ck σ q8 3).bind fun _ =>
        (f_X3_end q8 σ).bind fun v9 =>
        some (.inl v9))
      else (
        some (.inl v3)))
    else (
      some (.inr x2)))
noncomputable def g_X1_firstHole_0 (h0 : Nat) (x1 : Int32)   (σ : mm_M) : Option (((Int32)) ⊕ (Int32)) :=
  some (.inl (0 : Int32))
noncomputable def s_X1_firstHole (h0 : Nat) (x1 : Int32) (σ : mm_M) : (Int32) → Option (((Int32)) ⊕ (Int32)) := fun s => g_X1_firstHole_2 h0 x1 s σ
noncomputable def f_X1_firstHole (h0 : Nat) (x1 : Int32) (σ : mm_M) : Option (Int32) := lgo (s_X1_firstHole h0 x1 σ) (g_X1_firstHole_0 h0 x1 σ)
/-! IslandHeap$Thing.<init>(III)V -/
noncomputable def g_X3_init_26 (h0 : Nat) (x1 : Int32) (x2 : Int32) (x3 : Int32) (x4 : Int32)  (σ : mm_M) : Option (((Int32 × mm_M)) ⊕ (mm_M)) :=
  if x2 ≤ x4 then (
    some (.inr σ))
  else (
    (gA σ h0 3 1).bind fun q2 =>
    (sI σ q2 0 x4 (-1 : Int32)).bind fun σ3 =>
    some (.inl ((x4 + (1 : Int32)), σ3)))
noncomputable def g_X3_init_0 (h0 : Nat) (x1 : Int32) (x2 : Int32) (x3 : Int32)   (σ : mm_M) : Option (((Int32 × mm_M)) ⊕ (mm_M)) :=
  (pF σ h0 3 0 (vI x1)).bind fun σ1 =>
  b2 (nA σ1 0 x2 6) fun q3 σ2 =>
  (pF σ2 h0 3 1 (vR (some q3))).bind fun σ4 =>
  b2 (nA σ4 0 x3 6) fun q6 σ5 =>
  (pF σ5 h0 3 2 (vR (some q6))).bind fun σ7 =>
  some (.inl ((0 : Int32), σ7))
noncomputable def s_X3_init (h0 : Nat) (x1 : Int32) (x2 : Int32) (x3 : Int32) : (Int32 × mm_M) → Option (((Int32 × mm_M)) ⊕ (mm_M)) := fun s => g_X3_init_26 h0 x1 x2 x3 s.1 s.2
noncomputable def f_X3_init (h0 : Nat) (x1 : Int32) (x2 : Int32) (x3 : Int32) (σ : mm_M) : Option (mm_M) := lgo (s_X3_init h0 x1 x2 x3) (g_X3_init_0 h0 x1 x2 x3 σ)
/-! IslandHeap$Heap.alloc(II)I -/
noncomputable def g_X1_alloc_33 (h0 : Nat) (x1 : Int32) (x2 : Int32) (x3 : Int32) (a4 : Nat) (x5 : Int32)  (σ : mm_M) : Option (((Int32 × Nat × Int32 × mm_M) ⊕ (Int32 × Nat × Int32 × mm_M)) ⊕ (Int32 × mm_M)) :=
  (gA σ h0 1 2).bind fun q1 =>
  (ck σ q1 15).bind fun _ =>
  (f_J2_size q1 σ).bind fun v2 =>
  if v2 ≤ x5 then (
    (gA σ h0 1 2).bind fun q4 =>
    (ck σ q4 15).bind fun _ =>
    (f_J2_add q4 x5 a4 σ).bind fun σ5 =>
    some (.inl (.inr (x3, a4, x3, σ5))))
  else (
    (gA σ h0 1 2).bind fun q6 =>
    (ck σ q6 15).bind fun _ =>
    (f_J2_get q6 x5 σ).bind fun p7 =>
    (p7).bind fun q8 =>
    (ck σ q8 3).bind fun _ =>
    (gI σ q8 3 0).bind fun v9 =>
    if x3 ≤ v9 then (
      (gA σ h0 1 2).bind fun q11 =>
      (ck σ q11 15).bind fun _ =>
      (f_J2_add q11 x5 a4 σ).bind fun σ12 =>
      some (.inl (.inr (x3, a4, x3, σ12))))
    else (
      some (.inl (.inl (x3, a4, (x5 + (1 : Int32)), σ)))))
noncomputable def g_X1_alloc_84 (h0 : Nat) (x1 : Int32) (x2 : Int32) (x3 : Int32) (a4 : Nat) (x6 : Int32)  (σ : mm_M) : Option (((Int32 × Nat × Int32 × mm_M) ⊕ (Int32 × Nat × Int32 × mm_M)) ⊕ (Int32 × mm_M)) :=
  (ck σ a4 3).bind fun _ =>
  (f_X3_end a4 σ).bind fun v1 =>
  if v1 ≤ x6 then (
    (gI σ h0 1 6).bind fun v3 =>
    (pF σ h0 1 6 (vI (v3 + (1 : Int32)))).bind fun σ4 =>
    some (.inr (x3, σ4)))
  else (
    (gA σ h0 1 3).bind fun q5 =>
    (sR σ q5 3 x6 (some a4)).bind fun σ6 =>
    some (.inl (.inr (x3, a4, (x6 + (1 : Int32)), σ6))))
noncomputable def g_X1_alloc_0 (h0 : Nat) (x1 : Int32) (x2 : Int32)   (σ : mm_M) : Option (((Int32 × Nat × Int32 × mm_M) ⊕ (Int32 × Nat × Int32 × mm_M)) ⊕ (Int32 × mm_M)) :=
  (ck σ h0 1).bind fun _ =>
  (f_X1_firstHole h0 (((1 : Int32) + x1) + x2) σ).bind fun v1 =>
  if v1 = (-1 : Int32) then (
    some (.inr ((-1000004 : Int32), σ)))
  else (
    b2 (nO σ 3 df_3) fun q4 σ3 =>
    (f_X3_init q4 v1 x1 x2 σ3).bind fun σ5 =>
    some (.inl (.inl (v1, q4, (0 : Int32), σ5))))
noncomputable def s_X1_alloc (h0 : Nat) (x1 : Int32) (x2 : Int32) : (Int32 × Nat × Int32 × mm_M) ⊕ (Int32 × Nat × Int32 × mm_M) → Option (((Int32 × Nat × Int32 × mm_M) ⊕ (Int32 × Nat × Int32 × mm_M)) ⊕ (Int32 × mm_M)) := fun s => match s with
  | (.inl s) => g_X1_alloc_33 h0 x1 x2 s.1 s.2.1 s.2.2.1 s.2.2.2
  | (.inr s) => g_X1_alloc_84 h0 x1 x2 s.1 s.2.1 s.2.2.1 s.2.2.2
noncomputable def f_X1_alloc (h0 : Nat) (x1 : Int32) (x2 : Int32) (σ : mm_M) : Option (Int32 × mm_M) := lgo (s_X1_alloc h0 x1 x2) (g_X1_alloc_0 h0 x1 x2 σ)
/-! IslandHeap.alloc(II)I -/
noncomputable def f_X0_alloc (h0 : Nat) (x1 : Int32) (x2 : Int32) (σ : mm_M) : Option (Int32 × mm_M) :=
  (f_X0_isIn x1 (0 : Int32) (6 : Int32) σ).bind fun v1 =>
  if v1 = 0 then (
    some ((-1000002 : Int32), σ))
  else (
    (f_X0_isIn x2 (0 : Int32) (6 : Int32) σ).bind fun v3 =>
    if v3 = 0 then (
      some ((-1000002 : Int32), σ))
    else (
      (gA σ h0 0 0).bind fun q5 =>
      (ck σ q5 1).bind fun _ =>
      b2 (f_X1_alloc q5 x1 x2 σ) fun v6 σ7 =>
      some (v6, σ7)))
/-! IslandHeap$Heap.isWord(I)Z -/
def f_X1_isWord (h0 : Nat) (x1 : Int32) (σ : mm_M) : Option (Int32) :=
  (gI σ h0 1 0).bind fun v1 =>
  (f_X0_isIn x1 (0 : Int32) (v1 - (1 : Int32)) σ).bind fun v2 =>
  (grd (v2 = 0 ∨ v2 = 1)).bind fun _ =>
  some v2
/-! IslandHeap$Heap.at(I)LIslandHeap$Thing; -/
def f_X1_at (h0 : Nat) (x1 : Int32) (σ : mm_M) : Option (Option Nat) :=
  (ck σ h0 1).bind fun _ =>
  (f_X1_isWord h0 x1 σ).bind fun v1 =>
  if v1 = 0 then (
    some none)
  else (
    (gA σ h0 1 3).bind fun q3 =>
    (aR σ q3 3 x1).bind fun p4 =>
    some p4)
/-! IslandHeap.part(I)LIslandHeap$Part; -/
def f_X0_part (x0 : Int32) (σ : mm_M) : Option (Nat) :=
  if x0 = (0 : Int32) then (
    some 0)
  else (
    if x0 = (1 : Int32) then (
      some 1)
    else (
      if x0 = (2 : Int32) then (
        some 2)
      else (
        if x0 = (3 : Int32) then (
          some 3)
        else (
          if x0 = (4 : Int32) then (
            some 4)
          else (
            if x0 = (5 : Int32) then (
              some 5)
            else (
              if x0 = (6 : Int32) then (
                some 6)
              else (
                some 7)))))))
/-! IslandHeap$Part$1.of(LIslandHeap;LIslandHeap$Thing;)I -/
def f_X16_of (a1 : Nat) (a2 : Nat) (σ : mm_M) : Option (Int32) :=
  (gI σ a2 3 0).bind fun v1 =>
  some v1
/-! IslandHeap$Part$2.of(LIslandHeap;LIslandHeap$Thing;)I -/
def f_X22_of (a1 : Nat) (a2 : Nat) (σ : mm_M) : Option (Int32) :=
  (ck σ a2 3).bind fun _ =>
  (f_X3_size a2 σ).bind fun v1 =>
  some v1
/-! IslandHeap$Part$3.of(LIslandHeap;LIslandHeap$Thing;)I -/
def f_X17_of (a1 : Nat) (a2 : Nat) (σ : mm_M) : Option (Int32) :=
  (gA σ a2 3 1).bind fun q1 =>
  (aN σ q1).bind fun v2 =>
  some v2
/-! IslandHeap$Part$4.of(LIslandHeap;LIslandHeap$Thing;)I -/
def f_X18_of (a1 : Nat) (a2 : Nat) (σ : mm_M) : Option (Int32) :=
  (gA σ a2 3 2).bind fun q1 =>
  (aN σ q1).bind fun v2 =>
  some v2
/-! IslandHeap$Part$5.of(LIslandHeap;LIslandHeap$Thing;)I -/
def f_X19_of (a1 : Nat) (a2 : Nat) (σ : mm_M) : Option (Int32) :=
  (gI σ a2 3 3).bind fun v1 =>
  if v1 = 0 then (
    some (0 : Int32))
  else (
    some (1 : Int32))
/-! IslandHeap$Part$6.of(LIslandHeap;LIslandHeap$Thing;)I -/
def f_X20_of (a1 : Nat) (a2 : Nat) (σ : mm_M) : Option (Int32) :=
  (gI σ a2 3 4).bind fun v1 =>
  some v1
/-! IslandHeap$Heap.countOf([ILIslandHeap$Thing;)I -/
noncomputable def g_X1_countOf_11 (a0 : Nat) (a1 : Nat) (x2 : Int32) (a3 : Nat) (x4 : Int32) (x5 : Int32)  (σ : mm_M) : Option (((Int32 × Nat × Int32 × Int32)) ⊕ (Int32)) :=
  if x4 ≤ x5 then (
    some (.inr x2))
  else (
    (aI σ a3 0 x5).bind fun v2 =>
    if v2 = (-1 : Int32) then (
      some (.inl ((x2 + (0 : Int32)), a3, x4, (x5 + (1 : Int32)))))
    else (
      (gI σ a1 3 0).bind fun v4 =>
      (ck σ a1 3).bind fun _ =>
      (f_X3_end a1 σ).bind fun v5 =>
      (f_X0_isIn v2 v4 (v5 - (1 : Int32)) σ).bind fun v6 =>
      if v6 = 0 then (
        some (.inl ((x2 + (0 : Int32)), a3, x4, (x5 + (1 : Int32)))))
      else (
        some (.inl ((x2 + (1 : Int32)), a3, x4, (x5 + (1 : Int32)))))))
noncomputable def g_X1_countOf_0 (a0 : Nat) (a1 : Nat)   (σ : mm_M) : Option (((Int32 × Nat × Int32 × Int32)) ⊕ (Int32)) :=
  (aN σ a0).bind fun v1 =>
  some (.inl ((0 : Int32), a0, v1, (0 : Int32)))
noncomputable def s_X1_countOf (a0 : Nat) (a1 : Nat) (σ : mm_M) : (Int32 × Nat × Int32 × Int32) → Option (((Int32 × Nat × Int32 × Int32)) ⊕ (Int32)) := fun s => g_X1_countOf_11 a0 a1 s.1 s.2.1 s.2.2.1 s.2.2.2 σ
noncomputable def f_X1_countOf (a0 : Nat) (a1 : Nat) (σ : mm_M) : Option (Int32) := lgo (s_X1_countOf a0 a1 σ) (g_X1_countOf_0 a0 a1 σ)
/-! IslandHeap$Heap.references(LIslandHeap$Thing;)I -/
noncomputable def g_X1_references_20 (h0 : Nat) (a1 : Nat) (x2 : Int32) (x3 : Int32)  (σ : mm_M) : Option (((Int32 × Int32)) ⊕ (Int32)) :=
  (gA σ h0 1 2).bind fun q1 =>
  (ck σ q1 15).bind fun _ =>
  (f_J2_size q1 σ).bind fun v2 =>
  if v2 ≤ x3 then (
    some (.inr x2))
  else (
    (gA σ h0 1 2).bind fun q4 =>
    (ck σ q4 15).bind fun _ =>
    (f_J2_get q4 x3 σ).bind fun p5 =>
    (p5).bind fun q6 =>
    (ck σ q6 3).bind fun _ =>
    (gA σ q6 3 1).bind fun q7 =>
    (f_X1_countOf q7 a1 σ).bind fun v8 =>
    some (.inl ((x2 + v8), (x3 + (1 : Int32)))))
noncomputable def g_X1_references_0 (h0 : Nat) (a1 : Nat)   (σ : mm_M) : Option (((Int32 × Int32)) ⊕ (Int32)) :=
  (gA σ h0 1 4).bind fun q1 =>
  (f_X1_countOf q1 a1 σ).bind fun v2 =>
  (gA σ h0 1 5).bind fun q3 =>
  (f_X1_countOf q3 a1 σ).bind fun v4 =>
  some (.inl ((v2 + v4), (0 : Int32)))
noncomputable def s_X1_references (h0 : Nat) (a1 : Nat) (σ : mm_M) : (Int32 × Int32) → Option (((Int32 × Int32)) ⊕ (Int32)) := fun s => g_X1_references_20 h0 a1 s.1 s.2 σ
noncomputable def f_X1_references (h0 : Nat) (a1 : Nat) (σ : mm_M) : Option (Int32) := lgo (s_X1_references h0 a1 σ) (g_X1_references_0 h0 a1 σ)
/-! IslandHeap$Part$7.of(LIslandHeap;LIslandHeap$Thing;)I -/
noncomputable def f_X15_of (a1 : Nat) (a2 : Nat) (σ : mm_M) : Option (Int32) :=
  (gA σ a1 0 0).bind fun q1 =>
  (ck σ q1 1).bind fun _ =>
  (f_X1_references q1 a2 σ).bind fun v2 =>
  some v2
/-! IslandHeap$Marking.<init>(LIslandHeap$Heap;[LIslandHeap$Thing;ILIslandHeap$Thing;)V -/
def f_X4_init (h0 : Nat) (a1 : Nat) (a2 : Nat) (x3 : Int32) (r4 : Option Nat) (σ : mm_M) : Option (mm_M) :=
  (pF σ h0 4 0 (vR (some a1))).bind fun σ1 =>
  (pF σ1 h0 4 2 (vR (some a2))).bind fun σ2 =>
  (pF σ2 h0 4 3 (vI x3)).bind fun σ3 =>
  (pF σ3 h0 4 1 (vR r4)).bind fun σ4 =>
  some σ4
/-! IslandHeap$Heap.target(I)LIslandHeap$Thing; -/
def f_X1_target (h0 : Nat) (x1 : Int32) (σ : mm_M) : Option (Option Nat) :=
  if x1 = (-1 : Int32) then (
    some none)
  else (
    (gA σ h0 1 3).bind fun q2 =>
    (aR σ q2 3 x1).bind fun p3 =>
    some p3)
/-! IslandHeap$Marking.reach(LIslandHeap$Thing;)V -/
def f_X4_reach (h0 : Nat) (r1 : Option Nat) (σ : mm_M) : Option (mm_M) :=
  mt r1 (
    some σ) (fun q1 =>
    (gI σ q1 3 5).bind fun v2 =>
    if v2 = 0 then (
      (gR σ h0 4 1).bind fun p4 =>
      if (some q1) = p4 then (
        some σ)
      else (
        (pF σ q1 3 5 (vI (1 : Int32))).bind fun σ6 =>
        (gI σ6 h0 4 4).bind fun v7 =>
        (gI σ6 h0 4 3).bind fun v8 =>
        if v7 = v8 then (
          (pF σ6 h0 4 7 (vI (1 : Int32))).bind fun σ18 =>
          some σ18)
        else (
          (gA σ6 h0 4 2).bind fun q10 =>
          (gI σ6 h0 4 4).bind fun v11 =>
          (sR σ6 q10 3 v11 (some q1)).bind fun σ12 =>
          (gI σ12 h0 4 4).bind fun v13 =>
          (pF σ12 h0 4 4 (vI (v13 + (1 : Int32)))).bind fun σ14 =>
          (gI σ14 h0 4 5).bind fun v15 =>
          (gI σ14 h0 4 4).bind fun v16 =>
          (pF σ14 h0 4 5 (vI (if v15 < v16 then v16 else v15))).bind fun σ17 =>
          some σ17)))
    else (
      some σ))
/-! IslandHeap$Marking.drain()V -/
noncomputable def g_X4_drain_0 (h0 : Nat)   (σ : mm_M) : Option (((mm_M) ⊕ (Nat × Int32 × Int32 × mm_M)) ⊕ (mm_M)) :=
  (gI σ h0 4 4).bind fun v1 =>
  if v1 ≤ 0 then (
    some (.inr σ))
  else (
    (gI σ h0 4 4).bind fun v3 =>
    (pF σ h0 4 4 (vI (v3 - (1 : Int32)))).bind fun σ4 =>
    (gA σ4 h0 4 2).bind fun q5 =>
    (gI σ4 h0 4 4).bind fun v6 =>
    (aR σ4 q5 3 v6).bind fun p7 =>
    (p7).bind fun q8 =>
    (gA σ4 q8 3 1).bind fun q9 =>
    (aN σ4 q9).bind fun v10 =>
    some (.inl (.inr (q9, v10, (0 : Int32), σ4))))
noncomputable def g_X4_drain_38 (h0 : Nat) (a2 : Nat) (x3 : Int32) (x4 : Int32)  (σ : mm_M) : Option (((mm_M) ⊕ (Nat × Int32 × Int32 × mm_M)) ⊕ (mm_M)) :=
  if x3 ≤ x4 then (
    some (.inl (.inl σ)))
  else (
    (aI σ a2 0 x4).bind fun v2 =>
    (gA σ h0 4 0).bind fun q3 =>
    (ck σ q3 1).bind fun _ =>
    (f_X1_target q3 v2 σ).bind fun p4 =>
    (ck σ h0 4).bind fun _ =>
    (f_X4_reach h0 p4 σ).bind fun σ5 =>
    some (.inl (.inr (a2, x3, (x4 + (1 : Int32)), σ5))))
noncomputable def s_X4_drain (h0 : Nat) : (mm_M) ⊕ (Nat × Int32 × Int32 × mm_M) → Option (((mm_M) ⊕ (Nat × Int32 × Int32 × mm_M)) ⊕ (mm_M)) := fun s => match s with
  | (.inl s) => g_X4_drain_0 h0 s
  | (.inr s) => g_X4_drain_38 h0 s.1 s.2.1 s.2.2.1 s.2.2.2
noncomputable def f_X4_drain (h0 : Nat) (σ : mm_M) : Option (mm_M) := lgo (s_X4_drain h0) (some (.inl (.inl σ)))
/-! IslandHeap$Marking.start(LIslandHeap$Thing;)V -/
noncomputable def f_X4_start (h0 : Nat) (r1 : Option Nat) (σ : mm_M) : Option (mm_M) :=
  (ck σ h0 4).bind fun _ =>
  (f_X4_reach h0 r1 σ).bind fun σ1 =>
  (ck σ1 h0 4).bind fun _ =>
  (f_X4_drain h0 σ1).bind fun σ2 =>
  some σ2
/-! IslandHeap$Marking.scan()V -/
noncomputable def g_X4_scan_17 (h0 : Nat) (x1 : Int32)  (σ : mm_M) : Option (((Int32 × mm_M) ⊕ (Int32 × Nat × Int32 × mm_M)) ⊕ (mm_M)) :=
  (gA σ h0 4 0).bind fun q1 =>
  (gA σ q1 1 2).bind fun q2 =>
  (ck σ q2 15).bind fun _ =>
  (f_J2_size q2 σ).bind fun v3 =>
  if v3 ≤ x1 then (
    some (.inr σ))
  else (
    (gA σ h0 4 0).bind fun q5 =>
    (gA σ q5 1 2).bind fun q6 =>
    (ck σ q6 15).bind fun _ =>
    (f_J2_get q6 x1 σ).bind fun p7 =>
    (p7).bind fun q8 =>
    (ck σ q8 3).bind fun _ =>
    some (.inl (.inr (x1, q8, (0 : Int32), σ))))
noncomputable def g_X4_scan_48 (h0 : Nat) (x1 : Int32) (a2 : Nat) (x3 : Int32)  (σ : mm_M) : Option (((Int32 × mm_M) ⊕ (Int32 × Nat × Int32 × mm_M)) ⊕ (mm_M)) :=
  (gA σ a2 3 1).bind fun q1 =>
  (aN σ q1).bind fun v2 =>
  if v2 ≤ x3 then (
    some (.inl (.inl ((x1 + (1 : Int32)), σ))))
  else (
    (gI σ a2 3 5).bind fun v4 =>
    if v4 = 0 then (
      some (.inl (.inl ((x1 + (1 : Int32)), σ))))
    else (
      (gA σ h0 4 0).bind fun q6 =>
      (gA σ a2 3 1).bind fun q7 =>
      (aI σ q7 0 x3).bind fun v8 =>
      (ck σ q6 1).bind fun _ =>
      (f_X1_target q6 v8 σ).bind fun p9 =>
      (ck σ h0 4).bind fun _ =>
      (f_X4_start h0 p9 σ).bind fun σ10 =>
      some (.inl (.inr (x1, a2, (x3 + (1 : Int32)), σ10)))))
noncomputable def g_X4_scan_0 (h0 : Nat)   (σ : mm_M) : Option (((Int32 × mm_M) ⊕ (Int32 × Nat × Int32 × mm_M)) ⊕ (mm_M)) :=
  (pF σ h0 4 7 (vI (0 : Int32))).bind fun σ1 =>
  (gI σ1 h0 4 6).bind fun v2 =>
  (pF σ1 h0 4 6 (vI (v2 + (1 : Int32)))).bind fun σ3 =>
  some (.inl (.inl ((0 : Int32), σ3)))
noncomputable def s_X4_scan (h0 : Nat) : (Int32 × mm_M) ⊕ (Int32 × Nat × Int32 × mm_M) → Option (((Int32 × mm_M) ⊕ (Int32 × Nat × Int32 × mm_M)) ⊕ (mm_M)) := fun s => match s with
  | (.inl s) => g_X4_scan_17 h0 s.1 s.2
  | (.inr s) => g_X4_scan_48 h0 s.1 s.2.1 s.2.2.1 s.2.2.2
noncomputable def f_X4_scan (h0 : Nat) (σ : mm_M) : Option (mm_M) := lgo (s_X4_scan h0) (g_X4_scan_0 h0 σ)
/-! IslandHeap$Marking.mark()LIslandHeap$Marking; -/
noncomputable def g_X4_mark_2 (h0 : Nat) (x1 : Int32)  (σ : mm_M) : Option (((Int32 × mm_M) ⊕ (Nat × Int32 × Int32 × mm_M) ⊕ (Int32 × mm_M) ⊕ (mm_M)) ⊕ (Nat × mm_M)) :=
  (gA σ h0 4 0).bind fun q1 =>
  (gA σ q1 1 2).bind fun q2 =>
  (ck σ q2 15).bind fun _ =>
  (f_J2_size q2 σ).bind fun v3 =>
  if v3 ≤ x1 then (
    (gA σ h0 4 0).bind fun q5 =>
    (gA σ q5 1 4).bind fun q6 =>
    (aN σ q6).bind fun v7 =>
    some (.inl (.inr (.inl (q6, v7, (0 : Int32), σ)))))
  else (
    (gA σ h0 4 0).bind fun q8 =>
    (gA σ q8 1 2).bind fun q9 =>
    (ck σ q9 15).bind fun _ =>
    (f_J2_get q9 x1 σ).bind fun p10 =>
    (p10).bind fun q11 =>
    (ck σ q11 3).bind fun _ =>
    (pF σ q11 3 5 (vI (0 : Int32))).bind fun σ12 =>
    some (.inl (.inl ((x1 + (1 : Int32)), σ12))))
noncomputable def g_X4_mark_53 (h0 : Nat) (a1 : Nat) (x2 : Int32) (x3 : Int32)  (σ : mm_M) : Option (((Int32 × mm_M) ⊕ (Nat × Int32 × Int32 × mm_M) ⊕ (Int32 × mm_M) ⊕ (mm_M)) ⊕ (Nat × mm_M)) :=
  if x2 ≤ x3 then (
    some (.inl (.inr (.inr (.inl ((0 : Int32), σ))))))
  else (
    (aI σ a1 0 x3).bind fun v2 =>
    (gA σ h0 4 0).bind fun q3 =>
    (ck σ q3 1).bind fun _ =>
    (f_X1_target q3 v2 σ).bind fun p4 =>
    (ck σ h0 4).bind fun _ =>
    (f_X4_start h0 p4 σ).bind fun σ5 =>
    some (.inl (.inr (.inl (a1, x2, (x3 + (1 : Int32)), σ5)))))
noncomputable def g_X4_mark_84 (h0 : Nat) (x1 : Int32)  (σ : mm_M) : Option (((Int32 × mm_M) ⊕ (Nat × Int32 × Int32 × mm_M) ⊕ (Int32 × mm_M) ⊕ (mm_M)) ⊕ (Nat × mm_M)) :=
  (gA σ h0 4 0).bind fun q1 =>
  (gA σ q1 1 2).bind fun q2 =>
  (ck σ q2 15).bind fun _ =>
  (f_J2_size q2 σ).bind fun v3 =>
  if v3 ≤ x1 then (
    some (.inl (.inr (.inr (.inr σ)))))
  else (
    (gA σ h0 4 0).bind fun q5 =>
    (gA σ q5 1 2).bind fun q6 =>
    (ck σ q6 15).bind fun _ =>
    (f_J2_get q6 x1 σ).bind fun p7 =>
    (p7).bind fun q8 =>
    (ck σ q8 3).bind fun _ =>
    (gI σ q8 3 3).bind fun v9 =>
    if v9 = 0 then (
      (ck σ h0 4).bind fun _ =>
      (f_X4_start h0 none σ).bind fun σ11 =>
      some (.inl (.inr (.inr (.inl ((x1 + (1 : Int32)), σ11))))))
    else (
      (ck σ h0 4).bind fun _ =>
      (f_X4_start h0 (some q8) σ).bind fun σ12 =>
      some (.inl (.inr (.inr (.inl ((x1 + (1 : Int32)), σ12)))))))
noncomputable def g_X4_mark_135 (h0 : Nat)   (σ : mm_M) : Option (((Int32 × mm_M) ⊕ (Nat × Int32 × Int32 × mm_M) ⊕ (Int32 × mm_M) ⊕ (mm_M)) ⊕ (Nat × mm_M)) :=
  (gI σ h0 4 7).bind fun v1 =>
  if v1 = 0 then (
    some (.inr (h0, σ)))
  else (
    (ck σ h0 4).bind fun _ =>
    (f_X4_scan h0 σ).bind fun σ3 =>
    some (.inl (.inr (.inr (.inr σ3)))))
noncomputable def g_X4_mark_0 (h0 : Nat)   (σ : mm_M) : Option (((Int32 × mm_M) ⊕ (Nat × Int32 × Int32 × mm_M) ⊕ (Int32 × mm_M) ⊕ (mm_M)) ⊕ (Nat × mm_M)) :=
  some (.inl (.inl ((0 : Int32), σ)))
noncomputable def s_X4_mark (h0 : Nat) : (Int32 × mm_M) ⊕ (Nat × Int32 × Int32 × mm_M) ⊕ (Int32 × mm_M) ⊕ (mm_M) → Option (((Int32 × mm_M) ⊕ (Nat × Int32 × Int32 × mm_M) ⊕ (Int32 × mm_M) ⊕ (mm_M)) ⊕ (Nat × mm_M)) := fun s => match s with
  | (.inl s) => g_X4_mark_2 h0 s.1 s.2
  | (.inr (.inl s)) => g_X4_mark_53 h0 s.1 s.2.1 s.2.2.1 s.2.2.2
  | (.inr (.inr (.inl s))) => g_X4_mark_84 h0 s.1 s.2
  | (.inr (.inr (.inr s))) => g_X4_mark_135 h0 s
noncomputable def f_X4_mark (h0 : Nat) (σ : mm_M) : Option (Nat × mm_M) := lgo (s_X4_mark h0) (g_X4_mark_0 h0 σ)
/-! IslandHeap.live(LIslandHeap$Thing;)LIslandHeap$Marking; -/
noncomputable def f_X0_live (h0 : Nat) (r1 : Option Nat) (σ : mm_M) : Option (Nat × mm_M) :=
  b2 (nO σ 4 df_4) fun q2 σ1 =>
  (gA σ1 h0 0 0).bind fun q3 =>
  (gA σ1 h0 0 1).bind fun q4 =>
  (f_X4_init q2 q3 q4 (200 : Int32) r1 σ1).bind fun σ5 =>
  (ck σ5 q2 4).bind fun _ =>
  b2 (f_X4_mark q2 σ5) fun q6 σ7 =>
  some (q6, σ7)
/-! IslandHeap$Part$8.of(LIslandHeap;LIslandHeap$Thing;)I -/
noncomputable def f_X21_of (a1 : Nat) (a2 : Nat) (σ : mm_M) : Option (Int32 × mm_M) :=
  (ck σ a1 0).bind fun _ =>
  b2 (f_X0_live a1 none σ) fun q1 σ2 =>
  (gI σ2 a2 3 5).bind fun v3 =>
  if v3 = 0 then (
    some ((0 : Int32), σ2))
  else (
    some ((1 : Int32), σ2))
/-! Part.of: the constant's own method -/
noncomputable def f_of (k : Nat) (h t : Nat) (σ : mm_M) : Option (Int32 × mm_M) :=
  if k = 0 then (f_X16_of h t σ).map (fun r => (r, σ))
  else if k = 1 then (f_X22_of h t σ).map (fun r => (r, σ))
  else if k = 2 then (f_X17_of h t σ).map (fun r => (r, σ))
  else if k = 3 then (f_X18_of h t σ).map (fun r => (r, σ))
  else if k = 4 then (f_X19_of h t σ).map (fun r => (r, σ))
  else if k = 5 then (f_X20_of h t σ).map (fun r => (r, σ))
  else if k = 6 then (f_X15_of h t σ).map (fun r => (r, σ))
  else if k = 7 then f_X21_of h t σ
  else none
/-! IslandHeap.object(II)I -/
noncomputable def f_X0_object (h0 : Nat) (x1 : Int32) (x2 : Int32) (σ : mm_M) : Option (Int32 × mm_M) :=
  (gA σ h0 0 0).bind fun q1 =>
  (ck σ q1 1).bind fun _ =>
  (f_X1_at q1 x1 σ).bind fun p2 =>
  mt p2 (
    some ((-1000002 : Int32), σ)) (fun q3 =>
    (f_X0_isIn x2 (0 : Int32) (7 : Int32) σ).bind fun v4 =>
    if v4 = 0 then (
      some ((-1000002 : Int32), σ))
    else (
      (f_X0_part x2 σ).bind fun j6 =>
      b2 (f_of j6 h0 q3 σ) fun v7 σ8 =>
      some (v7, σ8)))
/-! IslandHeap.next(I)I -/
noncomputable def g_X0_next_42 (h0 : Nat) (x1 : Int32) (x3 : Int32)  (σ : mm_M) : Option (((Int32)) ⊕ (Int32)) :=
  (gA σ h0 0 0).bind fun q1 =>
  (gI σ q1 1 0).bind fun v2 =>
  if v2 ≤ x3 then (
    some (.inr (-1 : Int32)))
  else (
    (gA σ h0 0 0).bind fun q4 =>
    (ck σ q4 1).bind fun _ =>
    (f_X1_at q4 x3 σ).bind fun p5 =>
    mt p5 (
      some (.inl (x3 + (1 : Int32)))) (fun q6 =>
      some (.inr x3)))
noncomputable def g_X0_next_19 (h0 : Nat) (x1 : Int32)   (σ : mm_M) : Option (((Int32)) ⊕ (Int32)) :=
  if x1 = (-1 : Int32) then (
    some (.inl (0 : Int32)))
  else (
    (gA σ h0 0 0).bind fun q2 =>
    (ck σ q2 1).bind fun _ =>
    (f_X1_at q2 x1 σ).bind fun p3 =>
    (p3).bind fun q4 =>
    (ck σ q4 3).bind fun _ =>
    (f_X3_end q4 σ).bind fun v5 =>
    some (.inl v5))
noncomputable def g_X0_next_0 (h0 : Nat) (x1 : Int32)   (σ : mm_M) : Option (((Int32)) ⊕ (Int32)) :=
  if x1 = (-1 : Int32) then (
    g_X0_next_19 h0 x1 σ)
  else (
    (gA σ h0 0 0).bind fun q2 =>
    (ck σ q2 1).bind fun _ =>
    (f_X1_at q2 x1 σ).bind fun p3 =>
    mt p3 (
      some (.inr (-1000002 : Int32))) (fun q4 =>
      g_X0_next_19 h0 x1 σ))
noncomputable def s_X0_next (h0 : Nat) (x1 : Int32) (σ : mm_M) : (Int32) → Option (((Int32)) ⊕ (Int32)) := fun s => g_X0_next_42 h0 x1 s σ
noncomputable def f_X0_next (h0 : Nat) (x1 : Int32) (σ : mm_M) : Option (Int32) := lgo (s_X0_next h0 x1 σ) (g_X0_next_0 h0 x1 σ)
/-! IslandHeap.hasField(LIslandHeap$Thing;I)Z -/
def f_X0_hasField (h0 : Nat) (r1 : Option Nat) (x2 : Int32) (σ : mm_M) : Option (Int32) :=
  mt r1 (
    some (0 : Int32)) (fun q1 =>
    (gA σ q1 3 1).bind fun q2 =>
    (aN σ q2).bind fun v3 =>
    (f_X0_isIn x2 (0 : Int32) (v3 - (1 : Int32)) σ).bind fun v4 =>
    if v4 = 0 then (
      some (0 : Int32))
    else (
      some (1 : Int32)))
/-! IslandHeap$Heap.isReference(I)Z -/
def f_X1_isReference (h0 : Nat) (x1 : Int32) (σ : mm_M) : Option (Int32) :=
  if x1 = (-1 : Int32) then (
    some (1 : Int32))
  else (
    (ck σ h0 1).bind fun _ =>
    (f_X1_at h0 x1 σ).bind fun p2 =>
    mt p2 (
      some (0 : Int32)) (fun q3 =>
      some (1 : Int32)))
/-! IslandHeap.exchange([III)I -/
def f_X0_exchange (a0 : Nat) (x1 : Int32) (x2 : Int32) (σ : mm_M) : Option (Int32 × mm_M) :=
  (aI σ a0 0 x1).bind fun v1 =>
  (sI σ a0 0 x1 x2).bind fun σ2 =>
  some (v1, σ2)
/-! IslandHeap.setField(III)I -/
def f_X0_setField (h0 : Nat) (x1 : Int32) (x2 : Int32) (x3 : Int32) (σ : mm_M) : Option (Int32 × mm_M) :=
  (gA σ h0 0 0).bind fun q1 =>
  (ck σ q1 1).bind fun _ =>
  (f_X1_at q1 x1 σ).bind fun p2 =>
  (ck σ h0 0).bind fun _ =>
  (f_X0_hasField h0 p2 x2 σ).bind fun v3 =>
  if v3 = 0 then (
    some ((-1000002 : Int32), σ))
  else (
    (gA σ h0 0 0).bind fun q5 =>
    (ck σ q5 1).bind fun _ =>
    (f_X1_isReference q5 x3 σ).bind fun v6 =>
    if v6 = 0 then (
      some ((-1000002 : Int32), σ))
    else (
      (p2).bind fun q8 =>
      (gA σ q8 3 1).bind fun q9 =>
      b2 (f_X0_exchange q9 x2 x3 σ) fun v10 σ11 =>
      some (v10, σ11)))
/-! IslandHeap.field(II)I -/
def f_X0_field (h0 : Nat) (x1 : Int32) (x2 : Int32) (σ : mm_M) : Option (Int32) :=
  (gA σ h0 0 0).bind fun q1 =>
  (ck σ q1 1).bind fun _ =>
  (f_X1_at q1 x1 σ).bind fun p2 =>
  (ck σ h0 0).bind fun _ =>
  (f_X0_hasField h0 p2 x2 σ).bind fun v3 =>
  if v3 = 0 then (
    some (-1000002 : Int32))
  else (
    (p2).bind fun q5 =>
    (gA σ q5 3 1).bind fun q6 =>
    (aI σ q6 0 x2).bind fun v7 =>
    some v7)
/-! IslandHeap.hasData(LIslandHeap$Thing;I)Z -/
def f_X0_hasData (h0 : Nat) (r1 : Option Nat) (x2 : Int32) (σ : mm_M) : Option (Int32) :=
  mt r1 (
    some (0 : Int32)) (fun q1 =>
    (gA σ q1 3 2).bind fun q2 =>
    (aN σ q2).bind fun v3 =>
    (f_X0_isIn x2 (0 : Int32) (v3 - (1 : Int32)) σ).bind fun v4 =>
    if v4 = 0 then (
      some (0 : Int32))
    else (
      some (1 : Int32)))
/-! IslandHeap.setData(III)I -/
def f_X0_setData (h0 : Nat) (x1 : Int32) (x2 : Int32) (x3 : Int32) (σ : mm_M) : Option (Int32 × mm_M) :=
  (gA σ h0 0 0).bind fun q1 =>
  (ck σ q1 1).bind fun _ =>
  (f_X1_at q1 x1 σ).bind fun p2 =>
  (ck σ h0 0).bind fun _ =>
  (f_X0_hasData h0 p2 x2 σ).bind fun v3 =>
  if v3 = 0 then (
    some ((-1000002 : Int32), σ))
  else (
    (f_X0_isIn x3 (-1000000 : Int32) (1000000 : Int32) σ).bind fun v5 =>
    if v5 = 0 then (
      some ((-1000002 : Int32), σ))
    else (
      (p2).bind fun q7 =>
      (gA σ q7 3 2).bind fun q8 =>
      b2 (f_X0_exchange q8 x2 x3 σ) fun v9 σ10 =>
      some (v9, σ10)))
/-! IslandHeap.data(II)I -/
def f_X0_data (h0 : Nat) (x1 : Int32) (x2 : Int32) (σ : mm_M) : Option (Int32) :=
  (gA σ h0 0 0).bind fun q1 =>
  (ck σ q1 1).bind fun _ =>
  (f_X1_at q1 x1 σ).bind fun p2 =>
  (ck σ h0 0).bind fun _ =>
  (f_X0_hasData h0 p2 x2 σ).bind fun v3 =>
  if v3 = 0 then (
    some (-1000002 : Int32))
  else (
    (p2).bind fun q5 =>
    (gA σ q5 3 2).bind fun q6 =>
    (aI σ q6 0 x2).bind fun v7 =>
    some v7)
/-! IslandHeap$Heap.pinned()I -/
noncomputable def g_X1_pinned_4 (h0 : Nat) (x1 : Int32) (x2 : Int32)  (σ : mm_M) : Option (((Int32 × Int32)) ⊕ (Int32)) :=
  (gA σ h0 1 2).bind fun q1 =>
  (ck σ q1 15).bind fun _ =>
  (f_J2_size q1 σ).bind fun v2 =>
  if v2 ≤ x2 then (
    some (.inr x1))
  else (
    (gA σ h0 1 2).bind fun q4 =>
    (ck σ q4 15).bind fun _ =>
    (f_J2_get q4 x2 σ).bind fun p5 =>
    (p5).bind fun q6 =>
    (ck σ q6 3).bind fun _ =>
    (gI σ q6 3 3).bind fun v7 =>
    if v7 = 0 then (
      some (.inl ((x1 + (0 : Int32)), (x2 + (1 : Int32)))))
    else (
      some (.inl ((x1 + (1 : Int32)), (x2 + (1 : Int32))))))
noncomputable def g_X1_pinned_0 (h0 : Nat)   (σ : mm_M) : Option (((Int32 × Int32)) ⊕ (Int32)) :=
  some (.inl ((0 : Int32), (0 : Int32)))
noncomputable def s_X1_pinned (h0 : Nat) (σ : mm_M) : (Int32 × Int32) → Option (((Int32 × Int32)) ⊕ (Int32)) := fun s => g_X1_pinned_4 h0 s.1 s.2 σ
noncomputable def f_X1_pinned (h0 : Nat) (σ : mm_M) : Option (Int32) := lgo (s_X1_pinned h0 σ) (g_X1_pinned_0 h0 σ)
/-! IslandHeap.pin(IZ)I -/
noncomputable def f_X0_pin (h0 : Nat) (x1 : Int32) (x2 : Int32) (σ : mm_M) : Option (Int32 × mm_M) :=
  (gA σ h0 0 0).bind fun q1 =>
  (ck σ q1 1).bind fun _ =>
  (f_X1_at q1 x1 σ).bind fun p2 =>
  mt p2 (
    some ((-1000002 : Int32), σ)) (fun q3 =>
    (gI σ q3 3 3).bind fun v4 =>
    if v4 = x2 then (
      some ((-1000003 : Int32), σ))
    else (
      (pZ σ q3 3 3 x2).bind fun σ6 =>
      (gA σ6 h0 0 0).bind fun q7 =>
      (ck σ6 q7 1).bind fun _ =>
      (f_X1_pinned q7 σ6).bind fun v8 =>
      some (v8, σ6)))
/-! IslandHeap.setRoot(II)I -/
def f_X0_setRoot (h0 : Nat) (x1 : Int32) (x2 : Int32) (σ : mm_M) : Option (Int32 × mm_M) :=
  (f_X0_isIn x1 (0 : Int32) (5 : Int32) σ).bind fun v1 =>
  if v1 = 0 then (
    some ((-1000002 : Int32), σ))
  else (
    (gA σ h0 0 0).bind fun q3 =>
    (ck σ q3 1).bind fun _ =>
    (f_X1_isReference q3 x2 σ).bind fun v4 =>
    if v4 = 0 then (
      some ((-1000002 : Int32), σ))
    else (
      (gA σ h0 0 0).bind fun q6 =>
      (gA σ q6 1 4).bind fun q7 =>
      b2 (f_X0_exchange q7 x1 x2 σ) fun v8 σ9 =>
      some (v8, σ9)))
/-! IslandHeap.root(I)I -/
def f_X0_root (h0 : Nat) (x1 : Int32) (σ : mm_M) : Option (Int32) :=
  (f_X0_isIn x1 (0 : Int32) (5 : Int32) σ).bind fun v1 =>
  if v1 = 0 then (
    some (-1000002 : Int32))
  else (
    (gA σ h0 0 0).bind fun q3 =>
    (gA σ q3 1 4).bind fun q4 =>
    (aI σ q4 0 x1).bind fun v5 =>
    some v5)
/-! IslandHeap.setWeak(II)I -/
def f_X0_setWeak (h0 : Nat) (x1 : Int32) (x2 : Int32) (σ : mm_M) : Option (Int32 × mm_M) :=
  (f_X0_isIn x1 (0 : Int32) (3 : Int32) σ).bind fun v1 =>
  if v1 = 0 then (
    some ((-1000002 : Int32), σ))
  else (
    (gA σ h0 0 0).bind fun q3 =>
    (ck σ q3 1).bind fun _ =>
    (f_X1_isReference q3 x2 σ).bind fun v4 =>
    if v4 = 0 then (
      some ((-1000002 : Int32), σ))
    else (
      (gA σ h0 0 0).bind fun q6 =>
      (gA σ q6 1 5).bind fun q7 =>
      b2 (f_X0_exchange q7 x1 x2 σ) fun v8 σ9 =>
      some (v8, σ9)))
/-! IslandHeap.weak(I)I -/
def f_X0_weak (h0 : Nat) (x1 : Int32) (σ : mm_M) : Option (Int32) :=
  (f_X0_isIn x1 (0 : Int32) (3 : Int32) σ).bind fun v1 =>
  if v1 = 0 then (
    some (-1000002 : Int32))
  else (
    (gA σ h0 0 0).bind fun q3 =>
    (gA σ q3 1 5).bind fun q4 =>
    (aI σ q4 0 x1).bind fun v5 =>
    some v5)
/-! IslandHeap$Report.<init>()V -/
def f_X5_init (h0 : Nat) (σ : mm_M) : Option (mm_M) :=
  some σ
/-! IslandHeap$Heap.note(LIslandHeap$Thing;ILIslandHeap$Report;)V -/
noncomputable def g_X1_note_75 (h0 : Nat) (a1 : Nat) (x2 : Int32) (a3 : Nat)  (t0 : Nat) (t1 : Int32) (t2 : Int32) (σ : mm_M) : Option (((Int32 × mm_M)) ⊕ (mm_M)) :=
  (pF σ t0 5 4 (vI (t1 + t2))).bind fun σ1 =>
  (gI σ1 a3 5 5).bind fun v2 =>
  (ck σ1 a1 3).bind fun _ =>
  (f_X3_size a1 σ1).bind fun v3 =>
  (gI σ1 a1 3 0).bind fun v4 =>
  (pF σ1 a3 5 5 (vI (v2 + (v3 * (v4 - x2))))).bind fun σ5 =>
  some (.inr σ5)
noncomputable def g_X1_note_3 (h0 : Nat) (a1 : Nat) (x2 : Int32) (a3 : Nat) (x4 : Int32)  (σ : mm_M) : Option (((Int32 × mm_M)) ⊕ (mm_M)) :=
  (ck σ a1 3).bind fun _ =>
  (f_X3_size a1 σ).bind fun v1 =>
  if v1 ≤ x4 then (
    (gI σ a3 5 0).bind fun v3 =>
    (pF σ a3 5 0 (vI (v3 + (1 : Int32)))).bind fun σ4 =>
    (gI σ4 a3 5 1).bind fun v5 =>
    (ck σ4 a1 3).bind fun _ =>
    (f_X3_size a1 σ4).bind fun v6 =>
    (pF σ4 a3 5 1 (vI (v5 + v6))).bind fun σ7 =>
    (gI σ7 a3 5 4).bind fun v8 =>
    (gI σ7 a1 3 0).bind fun v9 =>
    if x2 = v9 then (
      g_X1_note_75 h0 a1 x2 a3 a3 v8 (0 : Int32) σ7)
    else (
      g_X1_note_75 h0 a1 x2 a3 a3 v8 (1 : Int32) σ7))
  else (
    (gA σ h0 1 10).bind fun q11 =>
    (gI σ a1 3 0).bind fun v12 =>
    (sI σ q11 0 (v12 + x4) (x2 + x4)).bind fun σ13 =>
    some (.inl ((x4 + (1 : Int32)), σ13)))
noncomputable def g_X1_note_0 (h0 : Nat) (a1 : Nat) (x2 : Int32) (a3 : Nat)   (σ : mm_M) : Option (((Int32 × mm_M)) ⊕ (mm_M)) :=
  some (.inl ((0 : Int32), σ))
noncomputable def s_X1_note (h0 : Nat) (a1 : Nat) (x2 : Int32) (a3 : Nat) : (Int32 × mm_M) → Option (((Int32 × mm_M)) ⊕ (mm_M)) := fun s => g_X1_note_3 h0 a1 x2 a3 s.1 s.2
noncomputable def f_X1_note (h0 : Nat) (a1 : Nat) (x2 : Int32) (a3 : Nat) (σ : mm_M) : Option (mm_M) := lgo (s_X1_note h0 a1 x2 a3) (g_X1_note_0 h0 a1 x2 a3 σ)
/-! IslandHeap$Heap.correct([I)V -/
noncomputable def g_X1_correct_2 (h0 : Nat) (a1 : Nat) (x2 : Int32)  (σ : mm_M) : Option (((Int32 × mm_M)) ⊕ (mm_M)) :=
  (aN σ a1).bind fun v1 =>
  if v1 ≤ x2 then (
    some (.inr σ))
  else (
    (aI σ a1 0 x2).bind fun v3 =>
    if v3 = (-1 : Int32) then (
      (sI σ a1 0 x2 (-1 : Int32)).bind fun σ9 =>
      some (.inl ((x2 + (1 : Int32)), σ9)))
    else (
      (gA σ h0 1 10).bind fun q5 =>
      (aI σ a1 0 x2).bind fun v6 =>
      (aI σ q5 0 v6).bind fun v7 =>
      (sI σ a1 0 x2 v7).bind fun σ8 =>
      some (.inl ((x2 + (1 : Int32)), σ8))))
noncomputable def g_X1_correct_0 (h0 : Nat) (a1 : Nat)   (σ : mm_M) : Option (((Int32 × mm_M)) ⊕ (mm_M)) :=
  some (.inl ((0 : Int32), σ))
noncomputable def s_X1_correct (h0 : Nat) (a1 : Nat) : (Int32 × mm_M) → Option (((Int32 × mm_M)) ⊕ (mm_M)) := fun s => g_X1_correct_2 h0 a1 s.1 s.2
noncomputable def f_X1_correct (h0 : Nat) (a1 : Nat) (σ : mm_M) : Option (mm_M) := lgo (s_X1_correct h0 a1) (g_X1_correct_0 h0 a1 σ)
/-! IslandHeap$Heap.settle()V -/
noncomputable def g_X1_settle_10 (h0 : Nat) (x1 : Int32)  (σ : mm_M) : Option (((Int32 × mm_M) ⊕ (Int32 × mm_M)) ⊕ (mm_M)) :=
  if x1 < 0 then (
    some (.inl (.inr ((0 : Int32), σ))))
  else (
    (gA σ h0 1 2).bind fun q2 =>
    (ck σ q2 15).bind fun _ =>
    (f_J2_get q2 x1 σ).bind fun p3 =>
    (p3).bind fun q4 =>
    (ck σ q4 3).bind fun _ =>
    (gI σ q4 3 5).bind fun v5 =>
    if v5 = 0 then (
      (gA σ h0 1 2).bind fun q7 =>
      (ck σ q7 15).bind fun _ =>
      b2 (f_J2_remove q7 x1 σ) fun p8 σ9 =>
      some (.inl (.inl ((x1 + (-1 : Int32)), σ9))))
    else (
      some (.inl (.inl ((x1 + (-1 : Int32)), σ)))))
noncomputable def g_X1_settle_48 (h0 : Nat) (x1 : Int32)  (σ : mm_M) : Option (((Int32 × mm_M) ⊕ (Int32 × mm_M)) ⊕ (mm_M)) :=
  (gA σ h0 1 2).bind fun q1 =>
  (ck σ q1 15).bind fun _ =>
  (f_J2_size q1 σ).bind fun v2 =>
  if v2 ≤ x1 then (
    (gA σ h0 1 4).bind fun q4 =>
    (ck σ h0 1).bind fun _ =>
    (f_X1_correct h0 q4 σ).bind fun σ5 =>
    (gA σ5 h0 1 5).bind fun q6 =>
    (ck σ5 h0 1).bind fun _ =>
    (f_X1_correct h0 q6 σ5).bind fun σ7 =>
    some (.inr σ7))
  else (
    (gA σ h0 1 2).bind fun q8 =>
    (ck σ q8 15).bind fun _ =>
    (f_J2_get q8 x1 σ).bind fun p9 =>
    (p9).bind fun q10 =>
    (ck σ q10 3).bind fun _ =>
    (gA σ h0 1 10).bind fun q11 =>
    (gI σ q10 3 0).bind fun v12 =>
    (aI σ q11 0 v12).bind fun v13 =>
    (pF σ q10 3 0 (vI v13)).bind fun σ14 =>
    (gI σ14 q10 3 4).bind fun v15 =>
    (pF σ14 q10 3 4 (vI (v15 + (1 : Int32)))).bind fun σ16 =>
    (gA σ16 q10 3 1).bind fun q17 =>
    (ck σ16 h0 1).bind fun _ =>
    (f_X1_correct h0 q17 σ16).bind fun σ18 =>
    some (.inl (.inr ((x1 + (1 : Int32)), σ18))))
noncomputable def g_X1_settle_0 (h0 : Nat)   (σ : mm_M) : Option (((Int32 × mm_M) ⊕ (Int32 × mm_M)) ⊕ (mm_M)) :=
  (gA σ h0 1 2).bind fun q1 =>
  (ck σ q1 15).bind fun _ =>
  (f_J2_size q1 σ).bind fun v2 =>
  some (.inl (.inl ((v2 - (1 : Int32)), σ)))
noncomputable def s_X1_settle (h0 : Nat) : (Int32 × mm_M) ⊕ (Int32 × mm_M) → Option (((Int32 × mm_M) ⊕ (Int32 × mm_M)) ⊕ (mm_M)) := fun s => match s with
  | (.inl s) => g_X1_settle_10 h0 s.1 s.2
  | (.inr s) => g_X1_settle_48 h0 s.1 s.2
noncomputable def f_X1_settle (h0 : Nat) (σ : mm_M) : Option (mm_M) := lgo (s_X1_settle h0) (g_X1_settle_0 h0 σ)
/-! IslandHeap$Heap.occupy()V -/
noncomputable def g_X1_occupy_2 (h0 : Nat) (x1 : Int32)  (σ : mm_M) : Option (((Int32 × mm_M) ⊕ (Int32 × mm_M) ⊕ (Int32 × Nat × Int32 × mm_M)) ⊕ (mm_M)) :=
  if (200 : Int32) ≤ x1 then (
    some (.inl (.inr (.inl ((0 : Int32), σ)))))
  else (
    (gA σ h0 1 3).bind fun q2 =>
    (sR σ q2 3 x1 none).bind fun σ3 =>
    some (.inl (.inl ((x1 + (1 : Int32)), σ3))))
noncomputable def g_X1_occupy_24 (h0 : Nat) (x1 : Int32)  (σ : mm_M) : Option (((Int32 × mm_M) ⊕ (Int32 × mm_M) ⊕ (Int32 × Nat × Int32 × mm_M)) ⊕ (mm_M)) :=
  (gA σ h0 1 2).bind fun q1 =>
  (ck σ q1 15).bind fun _ =>
  (f_J2_size q1 σ).bind fun v2 =>
  if v2 ≤ x1 then (
    some (.inr σ))
  else (
    (gA σ h0 1 2).bind fun q4 =>
    (ck σ q4 15).bind fun _ =>
    (f_J2_get q4 x1 σ).bind fun p5 =>
    (p5).bind fun q6 =>
    (ck σ q6 3).bind fun _ =>
    (gI σ q6 3 0).bind fun v7 =>
    some (.inl (.inr (.inr (x1, q6, v7, σ)))))
noncomputable def g_X1_occupy_52 (h0 : Nat) (x1 : Int32) (a2 : Nat) (x3 : Int32)  (σ : mm_M) : Option (((Int32 × mm_M) ⊕ (Int32 × mm_M) ⊕ (Int32 × Nat × Int32 × mm_M)) ⊕ (mm_M)) :=
  (ck σ a2 3).bind fun _ =>
  (f_X3_end a2 σ).bind fun v1 =>
  if v1 ≤ x3 then (
    some (.inl (.inr (.inl ((x1 + (1 : Int32)), σ)))))
  else (
    (gA σ h0 1 3).bind fun q3 =>
    (sR σ q3 3 x3 (some a2)).bind fun σ4 =>
    some (.inl (.inr (.inr (x1, a2, (x3 + (1 : Int32)), σ4)))))
noncomputable def g_X1_occupy_0 (h0 : Nat)   (σ : mm_M) : Option (((Int32 × mm_M) ⊕ (Int32 × mm_M) ⊕ (Int32 × Nat × Int32 × mm_M)) ⊕ (mm_M)) :=
  some (.inl (.inl ((0 : Int32), σ)))
noncomputable def s_X1_occupy (h0 : Nat) : (Int32 × mm_M) ⊕ (Int32 × mm_M) ⊕ (Int32 × Nat × Int32 × mm_M) → Option (((Int32 × mm_M) ⊕ (Int32 × mm_M) ⊕ (Int32 × Nat × Int32 × mm_M)) ⊕ (mm_M)) := fun s => match s with
  | (.inl s) => g_X1_occupy_2 h0 s.1 s.2
  | (.inr (.inl s)) => g_X1_occupy_24 h0 s.1 s.2
  | (.inr (.inr s)) => g_X1_occupy_52 h0 s.1 s.2.1 s.2.2.1 s.2.2.2
noncomputable def f_X1_occupy (h0 : Nat) (σ : mm_M) : Option (mm_M) := lgo (s_X1_occupy h0) (g_X1_occupy_0 h0 σ)
/-! IslandHeap$Heap.slide(LIslandHeap$Report;)I -/
noncomputable def g_X1_slide_4 (h0 : Nat) (a1 : Nat) (x2 : Int32) (x3 : Int32)  (σ : mm_M) : Option (((Int32 × Int32 × mm_M) ⊕ (Int32 × Int32 × Int32 × mm_M)) ⊕ (Int32 × mm_M)) :=
  if (200 : Int32) ≤ x3 then (
    some (.inl (.inr (x2, (0 : Int32), (0 : Int32), σ))))
  else (
    (gA σ h0 1 3).bind fun q2 =>
    (aR σ q2 3 x3).bind fun p3 =>
    mt p3 (
      (gA σ h0 1 10).bind fun q5 =>
      (sI σ q5 0 x3 (-1 : Int32)).bind fun σ6 =>
      some (.inl (.inl ((x2 + (0 : Int32)), (x3 + (1 : Int32)), σ6)))) (fun q4 =>
      (gA σ h0 1 10).bind fun q7 =>
      (sI σ q7 0 x3 (-1 : Int32)).bind fun σ8 =>
      some (.inl (.inl ((x2 + (1 : Int32)), (x3 + (1 : Int32)), σ8)))))
noncomputable def g_X1_slide_97 (h0 : Nat) (a1 : Nat) (x2 : Int32) (x4 : Int32) (a5 : Nat) (t0 : Int32) (σ : mm_M) : Option (((Int32 × Int32 × mm_M) ⊕ (Int32 × Int32 × Int32 × mm_M)) ⊕ (Int32 × mm_M)) :=
  (ck σ a5 3).bind fun _ =>
  (f_X3_size a5 σ).bind fun v1 =>
  (ck σ h0 1).bind fun _ =>
  (f_X1_note h0 a5 t0 a1 σ).bind fun σ2 =>
  some (.inl (.inr (x2, (t0 + v1), (x4 + (1 : Int32)), σ2)))
noncomputable def g_X1_slide_46 (h0 : Nat) (a1 : Nat) (x2 : Int32) (x3 : Int32) (x4 : Int32)  (σ : mm_M) : Option (((Int32 × Int32 × mm_M) ⊕ (Int32 × Int32 × Int32 × mm_M)) ⊕ (Int32 × mm_M)) :=
  (gA σ h0 1 2).bind fun q1 =>
  (ck σ q1 15).bind fun _ =>
  (f_J2_size q1 σ).bind fun v2 =>
  if v2 ≤ x4 then (
    (ck σ h0 1).bind fun _ =>
    (f_X1_settle h0 σ).bind fun σ4 =>
    (ck σ4 h0 1).bind fun _ =>
    (f_X1_occupy h0 σ4).bind fun σ5 =>
    (gI σ5 a1 5 1).bind fun v6 =>
    some (.inr ((x2 - v6), σ5)))
  else (
    (gA σ h0 1 2).bind fun q7 =>
    (ck σ q7 15).bind fun _ =>
    (f_J2_get q7 x4 σ).bind fun p8 =>
    (p8).bind fun q9 =>
    (ck σ q9 3).bind fun _ =>
    (gI σ q9 3 5).bind fun v10 =>
    if v10 = 0 then (
      some (.inl (.inr (x2, x3, (x4 + (1 : Int32)), σ))))
    else (
      (gI σ q9 3 3).bind fun v12 =>
      if v12 = 0 then (
        g_X1_slide_97 h0 a1 x2 x4 q9 x3 σ)
      else (
        (gI σ q9 3 0).bind fun v14 =>
        g_X1_slide_97 h0 a1 x2 x4 q9 v14 σ)))
noncomputable def g_X1_slide_0 (h0 : Nat) (a1 : Nat)   (σ : mm_M) : Option (((Int32 × Int32 × mm_M) ⊕ (Int32 × Int32 × Int32 × mm_M)) ⊕ (Int32 × mm_M)) :=
  some (.inl (.inl ((0 : Int32), (0 : Int32), σ)))
noncomputable def s_X1_slide (h0 : Nat) (a1 : Nat) : (Int32 × Int32 × mm_M) ⊕ (Int32 × Int32 × Int32 × mm_M) → Option (((Int32 × Int32 × mm_M) ⊕ (Int32 × Int32 × Int32 × mm_M)) ⊕ (Int32 × mm_M)) := fun s => match s with
  | (.inl s) => g_X1_slide_4 h0 a1 s.1 s.2.1 s.2.2
  | (.inr s) => g_X1_slide_46 h0 a1 s.1 s.2.1 s.2.2.1 s.2.2.2
noncomputable def f_X1_slide (h0 : Nat) (a1 : Nat) (σ : mm_M) : Option (Int32 × mm_M) := lgo (s_X1_slide h0 a1) (g_X1_slide_0 h0 a1 σ)
/-! IslandHeap.collect()I -/
noncomputable def f_X0_collect (h0 : Nat) (σ : mm_M) : Option (Int32 × mm_M) :=
  b2 (nO σ 4 df_4) fun q2 σ1 =>
  (gA σ1 h0 0 0).bind fun q3 =>
  (gA σ1 h0 0 1).bind fun q4 =>
  (gA σ1 h0 0 0).bind fun q5 =>
  (gI σ1 q5 1 1).bind fun v6 =>
  (f_X4_init q2 q3 q4 v6 none σ1).bind fun σ7 =>
  (ck σ7 q2 4).bind fun _ =>
  b2 (f_X4_mark q2 σ7) fun q8 σ9 =>
  b2 (nO σ9 5 df_5) fun q11 σ10 =>
  (f_X5_init q11 σ10).bind fun σ12 =>
  (gI σ12 q8 4 6).bind fun v13 =>
  (pF σ12 q11 5 2 (vI v13)).bind fun σ14 =>
  (gI σ14 q8 4 5).bind fun v15 =>
  (pF σ14 q11 5 3 (vI v15)).bind fun σ16 =>
  (gA σ16 h0 0 0).bind fun q17 =>
  (ck σ16 q17 1).bind fun _ =>
  b2 (f_X1_slide q17 q11 σ16) fun v18 σ19 =>
  (gA σ19 h0 0 0).bind fun q20 =>
  (pF σ19 q20 1 9 (vR (some q11))).bind fun σ21 =>
  (gA σ21 h0 0 0).bind fun q22 =>
  (gI σ21 q22 1 7).bind fun v23 =>
  (pF σ21 q22 1 7 (vI (v23 + (1 : Int32)))).bind fun σ24 =>
  (gA σ24 h0 0 0).bind fun q25 =>
  (gI σ24 q25 1 8).bind fun v26 =>
  (pF σ24 q25 1 8 (vI (v26 + v18))).bind fun σ27 =>
  some (v18, σ27)
/-! IslandHeap.moved(I)I -/
def f_X0_moved (h0 : Nat) (x1 : Int32) (σ : mm_M) : Option (Int32) :=
  (gA σ h0 0 0).bind fun q1 =>
  (ck σ q1 1).bind fun _ =>
  (f_X1_isWord q1 x1 σ).bind fun v2 =>
  if v2 = 0 then (
    some (-1000002 : Int32))
  else (
    (gA σ h0 0 0).bind fun q4 =>
    (gR σ q4 1 9).bind fun p5 =>
    mt p5 (
      some (-1000003 : Int32)) (fun q6 =>
      (gA σ h0 0 0).bind fun q7 =>
      (gA σ q7 1 10).bind fun q8 =>
      (aI σ q8 0 x1).bind fun v9 =>
      some v9))
/-! IslandHeap$Report.part(I)I -/
def f_X5_part (h0 : Nat) (x1 : Int32) (σ : mm_M) : Option (Int32) :=
  if x1 = (0 : Int32) then (
    (gI σ h0 5 0).bind fun v6 =>
    some v6)
  else (
    if x1 = (1 : Int32) then (
      (gI σ h0 5 1).bind fun v7 =>
      some v7)
    else (
      if x1 = (2 : Int32) then (
        (gI σ h0 5 2).bind fun v8 =>
        some v8)
      else (
        if x1 = (3 : Int32) then (
          (gI σ h0 5 3).bind fun v9 =>
          some v9)
        else (
          if x1 = (4 : Int32) then (
            (gI σ h0 5 4).bind fun v10 =>
            some v10)
          else (
            (gI σ h0 5 5).bind fun v11 =>
            some v11)))))
/-! IslandHeap.report(I)I -/
def f_X0_report (h0 : Nat) (x1 : Int32) (σ : mm_M) : Option (Int32) :=
  (f_X0_isIn x1 (0 : Int32) (5 : Int32) σ).bind fun v1 =>
  if v1 = 0 then (
    some (-1000002 : Int32))
  else (
    (gA σ h0 0 0).bind fun q3 =>
    (gR σ q3 1 9).bind fun p4 =>
    mt p4 (
      some (-1000003 : Int32)) (fun q5 =>
      (gA σ h0 0 0).bind fun q6 =>
      (gR σ q6 1 9).bind fun p7 =>
      (p7).bind fun q8 =>
      (ck σ q8 5).bind fun _ =>
      (f_X5_part q8 x1 σ).bind fun v9 =>
      some v9))
/-! IslandHeap.occupied()I -/
noncomputable def g_X0_occupied_4 (h0 : Nat) (x1 : Int32) (x2 : Int32)  (σ : mm_M) : Option (((Int32 × Int32)) ⊕ (Int32)) :=
  (gA σ h0 0 0).bind fun q1 =>
  (gA σ q1 1 2).bind fun q2 =>
  (ck σ q2 15).bind fun _ =>
  (f_J2_size q2 σ).bind fun v3 =>
  if v3 ≤ x2 then (
    some (.inr x1))
  else (
    (gA σ h0 0 0).bind fun q5 =>
    (gA σ q5 1 2).bind fun q6 =>
    (ck σ q6 15).bind fun _ =>
    (f_J2_get q6 x2 σ).bind fun p7 =>
    (p7).bind fun q8 =>
    (ck σ q8 3).bind fun _ =>
    (ck σ q8 3).bind fun _ =>
    (f_X3_size q8 σ).bind fun v9 =>
    some (.inl ((x1 + v9), (x2 + (1 : Int32)))))
noncomputable def g_X0_occupied_0 (h0 : Nat)   (σ : mm_M) : Option (((Int32 × Int32)) ⊕ (Int32)) :=
  some (.inl ((0 : Int32), (0 : Int32)))
noncomputable def s_X0_occupied (h0 : Nat) (σ : mm_M) : (Int32 × Int32) → Option (((Int32 × Int32)) ⊕ (Int32)) := fun s => g_X0_occupied_4 h0 s.1 s.2 σ
noncomputable def f_X0_occupied (h0 : Nat) (σ : mm_M) : Option (Int32) := lgo (s_X0_occupied h0 σ) (g_X0_occupied_0 h0 σ)
/-! IslandHeap$Marking.words()I -/
noncomputable def g_X4_words_4 (h0 : Nat) (x1 : Int32) (x2 : Int32)  (σ : mm_M) : Option (((Int32 × Int32)) ⊕ (Int32)) :=
  (gA σ h0 4 0).bind fun q1 =>
  (gA σ q1 1 2).bind fun q2 =>
  (ck σ q2 15).bind fun _ =>
  (f_J2_size q2 σ).bind fun v3 =>
  if v3 ≤ x2 then (
    some (.inr x1))
  else (
    (gA σ h0 4 0).bind fun q5 =>
    (gA σ q5 1 2).bind fun q6 =>
    (ck σ q6 15).bind fun _ =>
    (f_J2_get q6 x2 σ).bind fun p7 =>
    (p7).bind fun q8 =>
    (ck σ q8 3).bind fun _ =>
    (gI σ q8 3 5).bind fun v9 =>
    if v9 = 0 then (
      some (.inl ((x1 + (0 : Int32)), (x2 + (1 : Int32)))))
    else (
      (gA σ h0 4 0).bind fun q11 =>
      (gA σ q11 1 2).bind fun q12 =>
      (ck σ q12 15).bind fun _ =>
      (f_J2_get q12 x2 σ).bind fun p13 =>
      (p13).bind fun q14 =>
      (ck σ q14 3).bind fun _ =>
      (ck σ q14 3).bind fun _ =>
      (f_X3_size q14 σ).bind fun v15 =>
      some (.inl ((x1 + v15), (x2 + (1 : Int32))))))
noncomputable def g_X4_words_0 (h0 : Nat)   (σ : mm_M) : Option (((Int32 × Int32)) ⊕ (Int32)) :=
  some (.inl ((0 : Int32), (0 : Int32)))
noncomputable def s_X4_words (h0 : Nat) (σ : mm_M) : (Int32 × Int32) → Option (((Int32 × Int32)) ⊕ (Int32)) := fun s => g_X4_words_4 h0 s.1 s.2 σ
noncomputable def f_X4_words (h0 : Nat) (σ : mm_M) : Option (Int32) := lgo (s_X4_words h0 σ) (g_X4_words_0 h0 σ)
/-! IslandHeap.garbage()I -/
noncomputable def f_X0_garbage (h0 : Nat) (σ : mm_M) : Option (Int32 × mm_M) :=
  (ck σ h0 0).bind fun _ =>
  (f_X0_occupied h0 σ).bind fun v1 =>
  (ck σ h0 0).bind fun _ =>
  b2 (f_X0_live h0 none σ) fun q2 σ3 =>
  (ck σ3 q2 4).bind fun _ =>
  (f_X4_words q2 σ3).bind fun v4 =>
  some ((v1 - v4), σ3)
/-! IslandHeap$Rings.<init>(LIslandHeap;)V -/
def f_X6_init (h0 : Nat) (a1 : Nat) (σ : mm_M) : Option (mm_M) :=
  (pF σ h0 6 2 (vR (some a1))).bind fun σ1 =>
  (gA σ1 h0 6 2).bind fun q2 =>
  (gA σ1 q2 0 1).bind fun q3 =>
  (pF σ1 h0 6 0 (vR (some q3))).bind fun σ4 =>
  some σ4
/-! IslandHeap$Rings.add(LIslandHeap$Thing;)V -/
def f_X6_add (h0 : Nat) (r1 : Option Nat) (σ : mm_M) : Option (mm_M) :=
  mt r1 (
    some σ) (fun q1 =>
    (gI σ q1 3 5).bind fun v2 =>
    if v2 = 0 then (
      (pF σ q1 3 5 (vI (1 : Int32))).bind fun σ4 =>
      (gA σ4 h0 6 0).bind fun q5 =>
      (gI σ4 h0 6 1).bind fun v6 =>
      (sR σ4 q5 3 v6 (some q1)).bind fun σ7 =>
      (gI σ7 h0 6 1).bind fun v8 =>
      (pF σ7 h0 6 1 (vI (v8 + (1 : Int32)))).bind fun σ9 =>
      some σ9)
    else (
      some σ))
/-! IslandHeap$Rings.distanceOf(LIslandHeap$Thing;)I -/
noncomputable def g_X6_distanceOf_2 (h0 : Nat) (a1 : Nat) (x2 : Int32)  (σ : mm_M) : Option (((Int32 × mm_M) ⊕ (Nat × Int32 × Int32 × mm_M) ⊕ (Int32 × mm_M) ⊕ (Int32 × Int32 × mm_M) ⊕ (Int32 × Int32 × Int32 × mm_M) ⊕ (Int32 × Int32 × Int32 × Nat × Int32 × Int32 × mm_M)) ⊕ (Int32 × mm_M)) :=
  (gA σ h0 6 2).bind fun q1 =>
  (gA σ q1 0 0).bind fun q2 =>
  (gA σ q2 1 2).bind fun q3 =>
  (ck σ q3 15).bind fun _ =>
  (f_J2_size q3 σ).bind fun v4 =>
  if v4 ≤ x2 then (
    (gA σ h0 6 2).bind fun q6 =>
    (gA σ q6 0 0).bind fun q7 =>
    (gA σ q7 1 4).bind fun q8 =>
    (aN σ q8).bind fun v9 =>
    some (.inl (.inr (.inl (q8, v9, (0 : Int32), σ)))))
  else (
    (gA σ h0 6 2).bind fun q10 =>
    (gA σ q10 0 0).bind fun q11 =>
    (gA σ q11 1 2).bind fun q12 =>
    (ck σ q12 15).bind fun _ =>
    (f_J2_get q12 x2 σ).bind fun p13 =>
    (p13).bind fun q14 =>
    (ck σ q14 3).bind fun _ =>
    (pF σ q14 3 5 (vI (0 : Int32))).bind fun σ15 =>
    some (.inl (.inl ((x2 + (1 : Int32)), σ15))))
noncomputable def g_X6_distanceOf_63 (h0 : Nat) (a1 : Nat) (a2 : Nat) (x3 : Int32) (x4 : Int32)  (σ : mm_M) : Option (((Int32 × mm_M) ⊕ (Nat × Int32 × Int32 × mm_M) ⊕ (Int32 × mm_M) ⊕ (Int32 × Int32 × mm_M) ⊕ (Int32 × Int32 × Int32 × mm_M) ⊕ (Int32 × Int32 × Int32 × Nat × Int32 × Int32 × mm_M)) ⊕ (Int32 × mm_M)) :=
  if x3 ≤ x4 then (
    some (.inl (.inr (.inr (.inl ((0 : Int32), σ))))))
  else (
    (aI σ a2 0 x4).bind fun v2 =>
    (gA σ h0 6 2).bind fun q3 =>
    (gA σ q3 0 0).bind fun q4 =>
    (ck σ q4 1).bind fun _ =>
    (f_X1_target q4 v2 σ).bind fun p5 =>
    (ck σ h0 6).bind fun _ =>
    (f_X6_add h0 p5 σ).bind fun σ6 =>
    some (.inl (.inr (.inl (a2, x3, (x4 + (1 : Int32)), σ6)))))
noncomputable def g_X6_distanceOf_99 (h0 : Nat) (a1 : Nat) (x2 : Int32)  (σ : mm_M) : Option (((Int32 × mm_M) ⊕ (Nat × Int32 × Int32 × mm_M) ⊕ (Int32 × mm_M) ⊕ (Int32 × Int32 × mm_M) ⊕ (Int32 × Int32 × Int32 × mm_M) ⊕ (Int32 × Int32 × Int32 × Nat × Int32 × Int32 × mm_M)) ⊕ (Int32 × mm_M)) :=
  (gA σ h0 6 2).bind fun q1 =>
  (gA σ q1 0 0).bind fun q2 =>
  (gA σ q2 1 2).bind fun q3 =>
  (ck σ q3 15).bind fun _ =>
  (f_J2_size q3 σ).bind fun v4 =>
  if v4 ≤ x2 then (
    some (.inl (.inr (.inr (.inr (.inl ((0 : Int32), (0 : Int32), σ)))))))
  else (
    (gA σ h0 6 2).bind fun q6 =>
    (gA σ q6 0 0).bind fun q7 =>
    (gA σ q7 1 2).bind fun q8 =>
    (ck σ q8 15).bind fun _ =>
    (f_J2_get q8 x2 σ).bind fun p9 =>
    (p9).bind fun q10 =>
    (ck σ q10 3).bind fun _ =>
    (gI σ q10 3 3).bind fun v11 =>
    if v11 = 0 then (
      (ck σ h0 6).bind fun _ =>
      (f_X6_add h0 none σ).bind fun σ13 =>
      some (.inl (.inr (.inr (.inl ((x2 + (1 : Int32)), σ13))))))
    else (
      (gA σ h0 6 2).bind fun q14 =>
      (gA σ q14 0 0).bind fun q15 =>
      (gA σ q15 1 2).bind fun q16 =>
      (ck σ q16 15).bind fun _ =>
      (f_J2_get q16 x2 σ).bind fun p17 =>
      (p17).bind fun q18 =>
      (ck σ q18 3).bind fun _ =>
      (ck σ h0 6).bind fun _ =>
      (f_X6_add h0 (some q18) σ).bind fun σ19 =>
      some (.inl (.inr (.inr (.inl ((x2 + (1 : Int32)), σ19)))))))
noncomputable def g_X6_distanceOf_174 (h0 : Nat) (a1 : Nat) (x2 : Int32) (x3 : Int32)  (σ : mm_M) : Option (((Int32 × mm_M) ⊕ (Nat × Int32 × Int32 × mm_M) ⊕ (Int32 × mm_M) ⊕ (Int32 × Int32 × mm_M) ⊕ (Int32 × Int32 × Int32 × mm_M) ⊕ (Int32 × Int32 × Int32 × Nat × Int32 × Int32 × mm_M)) ⊕ (Int32 × mm_M)) :=
  (gI σ h0 6 1).bind fun v1 =>
  if v1 ≤ x2 then (
    (gI σ a1 3 5).bind fun v3 =>
    if v3 = 0 then (
      some (.inr ((-1 : Int32), σ)))
    else (
      some (.inr (x3, σ))))
  else (
    (gI σ a1 3 5).bind fun v5 =>
    if v5 = 0 then (
      (gI σ h0 6 1).bind fun v9 =>
      some (.inl (.inr (.inr (.inr (.inr (.inl (x2, x3, v9, σ))))))))
    else (
      (gI σ a1 3 5).bind fun v7 =>
      if v7 = 0 then (
        some (.inr ((-1 : Int32), σ)))
      else (
        some (.inr (x3, σ)))))
noncomputable def g_X6_distanceOf_195 (h0 : Nat) (a1 : Nat) (x2 : Int32) (x3 : Int32) (x4 : Int32)  (σ : mm_M) : Option (((Int32 × mm_M) ⊕ (Nat × Int32 × Int32 × mm_M) ⊕ (Int32 × mm_M) ⊕ (Int32 × Int32 × mm_M) ⊕ (Int32 × Int32 × Int32 × mm_M) ⊕ (Int32 × Int32 × Int32 × Nat × Int32 × Int32 × mm_M)) ⊕ (Int32 × mm_M)) :=
  if x4 ≤ x2 then (
    some (.inl (.inr (.inr (.inr (.inl (x2, (x3 + (1 : Int32)), σ)))))))
  else (
    (gA σ h0 6 0).bind fun q2 =>
    (aR σ q2 3 x2).bind fun p3 =>
    (p3).bind fun q4 =>
    (gA σ q4 3 1).bind fun q5 =>
    (aN σ q5).bind fun v6 =>
    some (.inl (.inr (.inr (.inr (.inr (.inr (x2, x3, x4, q5, v6, (0 : Int32), σ))))))))
noncomputable def g_X6_distanceOf_220 (h0 : Nat) (a1 : Nat) (x2 : Int32) (x3 : Int32) (x4 : Int32) (a5 : Nat) (x6 : Int32) (x7 : Int32)  (σ : mm_M) : Option (((Int32 × mm_M) ⊕ (Nat × Int32 × Int32 × mm_M) ⊕ (Int32 × mm_M) ⊕ (Int32 × Int32 × mm_M) ⊕ (Int32 × Int32 × Int32 × mm_M) ⊕ (Int32 × Int32 × Int32 × Nat × Int32 × Int32 × mm_M)) ⊕ (Int32 × mm_M)) :=
  if x6 ≤ x7 then (
    some (.inl (.inr (.inr (.inr (.inr (.inl ((x2 + (1 : Int32)), x3, x4, σ))))))))
  else (
    (aI σ a5 0 x7).bind fun v2 =>
    (gA σ h0 6 2).bind fun q3 =>
    (gA σ q3 0 0).bind fun q4 =>
    (ck σ q4 1).bind fun _ =>
    (f_X1_target q4 v2 σ).bind fun p5 =>
    (ck σ h0 6).bind fun _ =>
    (f_X6_add h0 p5 σ).bind fun σ6 =>
    some (.inl (.inr (.inr (.inr (.inr (.inr (x2, x3, x4, a5, x6, (x7 + (1 : Int32)), σ6))))))))
noncomputable def g_X6_distanceOf_0 (h0 : Nat) (a1 : Nat)   (σ : mm_M) : Option (((Int32 × mm_M) ⊕ (Nat × Int32 × Int32 × mm_M) ⊕ (Int32 × mm_M) ⊕ (Int32 × Int32 × mm_M) ⊕ (Int32 × Int32 × Int32 × mm_M) ⊕ (Int32 × Int32 × Int32 × Nat × Int32 × Int32 × mm_M)) ⊕ (Int32 × mm_M)) :=
  some (.inl (.inl ((0 : Int32), σ)))
noncomputable def s_X6_distanceOf (h0 : Nat) (a1 : Nat) : (Int32 × mm_M) ⊕ (Nat × Int32 × Int32 × mm_M) ⊕ (Int32 × mm_M) ⊕ (Int32 × Int32 × mm_M) ⊕ (Int32 × Int32 × Int32 × mm_M) ⊕ (Int32 × Int32 × Int32 × Nat × Int32 × Int32 × mm_M) → Option (((Int32 × mm_M) ⊕ (Nat × Int32 × Int32 × mm_M) ⊕ (Int32 × mm_M) ⊕ (Int32 × Int32 × mm_M) ⊕ (Int32 × Int32 × Int32 × mm_M) ⊕ (Int32 × Int32 × Int32 × Nat × Int32 × Int32 × mm_M)) ⊕ (Int32 × mm_M)) := fun s => match s with
  | (.inl s) => g_X6_distanceOf_2 h0 a1 s.1 s.2
  | (.inr (.inl s)) => g_X6_distanceOf_63 h0 a1 s.1 s.2.1 s.2.2.1 s.2.2.2
  | (.inr (.inr (.inl s))) => g_X6_distanceOf_99 h0 a1 s.1 s.2
  | (.inr (.inr (.inr (.inl s)))) => g_X6_distanceOf_174 h0 a1 s.1 s.2.1 s.2.2
  | (.inr (.inr (.inr (.inr (.inl s))))) => g_X6_distanceOf_195 h0 a1 s.1 s.2.1 s.2.2.1 s.2.2.2
  | (.inr (.inr (.inr (.inr (.inr s))))) => g_X6_distanceOf_220 h0 a1 s.1 s.2.1 s.2.2.1 s.2.2.2.1 s.2.2.2.2.1 s.2.2.2.2.2.1 s.2.2.2.2.2.2
noncomputable def f_X6_distanceOf (h0 : Nat) (a1 : Nat) (σ : mm_M) : Option (Int32 × mm_M) := lgo (s_X6_distanceOf h0 a1) (g_X6_distanceOf_0 h0 a1 σ)
/-! IslandHeap.distance(I)I -/
noncomputable def f_X0_distance (h0 : Nat) (x1 : Int32) (σ : mm_M) : Option (Int32 × mm_M) :=
  (gA σ h0 0 0).bind fun q1 =>
  (ck σ q1 1).bind fun _ =>
  (f_X1_at q1 x1 σ).bind fun p2 =>
  mt p2 (
    some ((-1000002 : Int32), σ)) (fun q3 =>
    b2 (nO σ 6 df_6) fun q5 σ4 =>
    (f_X6_init q5 h0 σ4).bind fun σ6 =>
    (ck σ6 q5 6).bind fun _ =>
    b2 (f_X6_distanceOf q5 q3 σ6) fun v7 σ8 =>
    some (v7, σ8))
/-! IslandHeap.retained(I)I -/
noncomputable def f_X0_retained (h0 : Nat) (x1 : Int32) (σ : mm_M) : Option (Int32 × mm_M) :=
  (gA σ h0 0 0).bind fun q1 =>
  (ck σ q1 1).bind fun _ =>
  (f_X1_at q1 x1 σ).bind fun p2 =>
  mt p2 (
    some ((-1000002 : Int32), σ)) (fun q3 =>
    (ck σ h0 0).bind fun _ =>
    b2 (f_X0_live h0 none σ) fun q4 σ5 =>
    (ck σ5 q4 4).bind fun _ =>
    (f_X4_words q4 σ5).bind fun v6 =>
    (gI σ5 q3 3 5).bind fun v7 =>
    if v7 = 0 then (
      some ((0 : Int32), σ5))
    else (
      (ck σ5 h0 0).bind fun _ =>
      b2 (f_X0_live h0 (some q3) σ5) fun q9 σ10 =>
      (ck σ10 q9 4).bind fun _ =>
      (f_X4_words q9 σ10).bind fun v11 =>
      some ((v6 - v11), σ10)))
/-! IslandHeap.free(I)I -/
noncomputable def g_X0_free_123 (h0 : Nat) (x1 : Int32) (x2 : Int32) (x3 : Int32) (x4 : Int32) (x5 : Int32) (x7 : Int32)  (σ : mm_M) : Option (((Int32 × Int32 × Int32 × Int32 × Int32 × Int32)) ⊕ (Int32)) :=
  if x1 = (0 : Int32) then (
    some (.inr x2))
  else (
    if x1 = (1 : Int32) then (
      some (.inr x3))
    else (
      if x1 = (2 : Int32) then (
        some (.inr x4))
      else (
        if x1 = (3 : Int32) then (
          some (.inr x7))
        else (
          if x1 = (4 : Int32) then (
            some (.inr x5))
          else (
            some (.inr (-1000002 : Int32)))))))
noncomputable def g_X0_free_72 (h0 : Nat) (x1 : Int32) (x2 : Int32) (x4 : Int32) (x5 : Int32) (x6 : Int32) (x7 : Int32) (x8 : Int32) (t0 : Int32) (t1 : Int32) (σ : mm_M) : Option (((Int32 × Int32 × Int32 × Int32 × Int32 × Int32)) ⊕ (Int32)) :=
  if x8 ≤ 0 then (
    (gA σ h0 0 0).bind fun q2 =>
    (gA σ q2 1 3).bind fun q3 =>
    (aR σ q3 3 x6).bind fun p4 =>
    (p4).bind fun q5 =>
    (ck σ q5 3).bind fun _ =>
    (f_X3_end q5 σ).bind fun v6 =>
    some (.inl (x2, (t0 + t1), (if x4 < x8 then x8 else x4), (x5 + (x8 / (4 : Int32))), v6, x7)))
  else (
    some (.inl (x2, (t0 + t1), (if x4 < x8 then x8 else x4), (x5 + (x8 / (4 : Int32))), (x6 + x8), x7)))
noncomputable def g_X0_free_24 (h0 : Nat) (x1 : Int32) (x2 : Int32) (x3 : Int32) (x4 : Int32) (x5 : Int32) (x6 : Int32) (x7 : Int32)  (σ : mm_M) : Option (((Int32 × Int32 × Int32 × Int32 × Int32 × Int32)) ⊕ (Int32)) :=
  if x6 = (-1 : Int32) then (
    g_X0_free_123 h0 x1 x2 x3 x4 x5 x7 σ)
  else (
    (gA σ h0 0 0).bind fun q2 =>
    (gI σ q2 1 0).bind fun v3 =>
    if v3 ≤ x6 then (
      g_X0_free_123 h0 x1 x2 x3 x4 x5 x7 σ)
    else (
      (gA σ h0 0 0).bind fun q5 =>
      (ck σ q5 1).bind fun _ =>
      (f_X1_holeEnd q5 x6 σ).bind fun v6 =>
      if (v6 - x6) ≤ 0 then (
        g_X0_free_72 h0 x1 (x2 + (v6 - x6)) x4 x5 x6 x7 (v6 - x6) x3 (0 : Int32) σ)
      else (
        g_X0_free_72 h0 x1 (x2 + (v6 - x6)) x4 x5 x6 x7 (v6 - x6) x3 (1 : Int32) σ)))
noncomputable def g_X0_free_0 (h0 : Nat) (x1 : Int32)   (σ : mm_M) : Option (((Int32 × Int32 × Int32 × Int32 × Int32 × Int32)) ⊕ (Int32)) :=
  (gA σ h0 0 0).bind fun q1 =>
  (ck σ q1 1).bind fun _ =>
  (f_X1_firstHole q1 (1 : Int32) σ).bind fun v2 =>
  some (.inl ((0 : Int32), (0 : Int32), (0 : Int32), (0 : Int32), v2, v2))
noncomputable def s_X0_free (h0 : Nat) (x1 : Int32) (σ : mm_M) : (Int32 × Int32 × Int32 × Int32 × Int32 × Int32) → Option (((Int32 × Int32 × Int32 × Int32 × Int32 × Int32)) ⊕ (Int32)) := fun s => g_X0_free_24 h0 x1 s.1 s.2.1 s.2.2.1 s.2.2.2.1 s.2.2.2.2.1 s.2.2.2.2.2 σ
noncomputable def f_X0_free (h0 : Nat) (x1 : Int32) (σ : mm_M) : Option (Int32) := lgo (s_X0_free h0 x1 σ) (g_X0_free_0 h0 x1 σ)
/-! IslandHeap.type(I)I -/
def f_X0_type (h0 : Nat) (x1 : Int32) (σ : mm_M) : Option (Int32 × mm_M) :=
  (f_X0_isIn x1 (0 : Int32) (127 : Int32) σ).bind fun v1 =>
  if v1 = 0 then (
    some ((-1000002 : Int32), σ))
  else (
    (gI σ h0 0 3).bind fun v3 =>
    if v3 = (80 : Int32) then (
      some ((-1000004 : Int32), σ))
    else (
      (gA σ h0 0 2).bind fun q5 =>
      (gI σ h0 0 3).bind fun v6 =>
      (sI σ q5 2 v6 x1.toInt8.toInt32).bind fun σ7 =>
      (gI σ7 h0 0 3).bind fun v8 =>
      (pF σ7 h0 0 3 (vI (v8 + (1 : Int32)))).bind fun σ9 =>
      (gI σ9 h0 0 3).bind fun v10 =>
      some (v10, σ9)))
/-! IslandHeap.clearText()I -/
def f_X0_clearText (h0 : Nat) (σ : mm_M) : Option (Int32 × mm_M) :=
  (gI σ h0 0 3).bind fun v1 =>
  (pF σ h0 0 3 (vI (0 : Int32))).bind fun σ2 =>
  some (v1, σ2)
/-! IslandHeap$ScriptReader.<init>(LIslandHeap;)V -/
def f_X7_init (h0 : Nat) (a1 : Nat) (σ : mm_M) : Option (mm_M) :=
  (pF σ h0 7 2 (vR (some a1))).bind fun σ1 =>
  b2 (nO σ1 15 df_15) fun q3 σ2 =>
  (f_J2_init q3 σ2).bind fun σ4 =>
  (pF σ4 h0 7 1 (vR (some q3))).bind fun σ5 =>
  some σ5
/-! IslandHeap$ScriptReader.next()I -/
def f_X7_next (h0 : Nat) (σ : mm_M) : Option (Int32) :=
  (gI σ h0 7 0).bind fun v1 =>
  (gA σ h0 7 2).bind fun q2 =>
  (gI σ q2 0 3).bind fun v3 =>
  if v3 ≤ v1 then (
    some (-1 : Int32))
  else (
    (gA σ h0 7 2).bind fun q5 =>
    (gA σ q5 0 2).bind fun q6 =>
    (gI σ h0 7 0).bind fun v7 =>
    (aI σ q6 2 v7).bind fun v8 =>
    some v8)
/-! IslandHeap$ScriptReader.blanks()V -/
noncomputable def g_X7_blanks_0 (h0 : Nat)   (σ : mm_M) : Option (((mm_M)) ⊕ (mm_M)) :=
  (ck σ h0 7).bind fun _ =>
  (f_X7_next h0 σ).bind fun v1 =>
  if v1 = (32 : Int32) then (
    (gI σ h0 7 0).bind fun v3 =>
    (pF σ h0 7 0 (vI (v3 + (1 : Int32)))).bind fun σ4 =>
    some (.inl σ4))
  else (
    some (.inr σ))
noncomputable def s_X7_blanks (h0 : Nat) : (mm_M) → Option (((mm_M)) ⊕ (mm_M)) := fun s => g_X7_blanks_0 h0 s
noncomputable def f_X7_blanks (h0 : Nat) (σ : mm_M) : Option (mm_M) := lgo (s_X7_blanks h0) (some (.inl σ))
/-! IslandHeap$ScriptReader.takes(I)Z -/
noncomputable def g_X7_takes_13 (h0 : Nat) (x1 : Int32)  (t0 : Int32) (σ : mm_M) : Option (Int32 × mm_M) :=
  if t0 = 0 then (
    (grd (t0 = 0 ∨ t0 = 1)).bind fun _ =>
    some (t0, σ))
  else (
    (gI σ h0 7 0).bind fun v2 =>
    (pF σ h0 7 0 (vI (v2 + (1 : Int32)))).bind fun σ3 =>
    (ck σ3 h0 7).bind fun _ =>
    (f_X7_blanks h0 σ3).bind fun σ4 =>
    (grd (t0 = 0 ∨ t0 = 1)).bind fun _ =>
    some (t0, σ4))
noncomputable def f_X7_takes (h0 : Nat) (x1 : Int32) (σ : mm_M) : Option (Int32 × mm_M) :=
  (ck σ h0 7).bind fun _ =>
  (f_X7_next h0 σ).bind fun v1 =>
  if v1 = x1 then (
    g_X7_takes_13 h0 x1 (1 : Int32) σ)
  else (
    g_X7_takes_13 h0 x1 (0 : Int32) σ)
/-! IslandHeap$ScriptReader.isDigit()Z -/
def f_X7_isDigit (h0 : Nat) (σ : mm_M) : Option (Int32) :=
  (ck σ h0 7).bind fun _ =>
  (f_X7_next h0 σ).bind fun v1 =>
  (f_X0_isIn v1 (48 : Int32) (57 : Int32) σ).bind fun v2 =>
  (grd (v2 = 0 ∨ v2 = 1)).bind fun _ =>
  some v2
/-! IslandHeap$TextFault.<init>(I)V -/
def f_X8_init (h0 : Nat) (x1 : Int32) (σ : mm_M) : Option (mm_M) :=
  (f_J9_init h0 none none (0 : Int32) (0 : Int32) σ).bind fun σ1 =>
  (pF σ1 h0 8 6 (vI x1)).bind fun σ2 =>
  some σ2
/-! IslandHeap$Allocate.<init>(II)V -/
def f_X9_init (h0 : Nat) (x1 : Int32) (x2 : Int32) (σ : mm_M) : Option (mm_M) :=
  (pF σ h0 9 0 (vI x1)).bind fun σ1 =>
  (pF σ1 h0 9 1 (vI x2)).bind fun σ2 =>
  some σ2
/-! IslandHeap$SetRoot.<init>(II)V -/
def f_X10_init (h0 : Nat) (x1 : Int32) (x2 : Int32) (σ : mm_M) : Option (mm_M) :=
  (pF σ h0 10 0 (vI x1)).bind fun σ1 =>
  (pF σ1 h0 10 1 (vI x2)).bind fun σ2 =>
  some σ2
/-! IslandHeap$SetWeak.<init>(II)V -/
def f_X11_init (h0 : Nat) (x1 : Int32) (x2 : Int32) (σ : mm_M) : Option (mm_M) :=
  (pF σ h0 11 0 (vI x1)).bind fun σ1 =>
  (pF σ1 h0 11 1 (vI x2)).bind fun σ2 =>
  some σ2
/-! IslandHeap$SetField.<init>(III)V -/
def f_X12_init (h0 : Nat) (x1 : Int32) (x2 : Int32) (x3 : Int32) (σ : mm_M) : Option (mm_M) :=
  (pF σ h0 12 0 (vI x1)).bind fun σ1 =>
  (pF σ1 h0 12 1 (vI x2)).bind fun σ2 =>
  (pF σ2 h0 12 2 (vI x3)).bind fun σ3 =>
  some σ3
/-! IslandHeap$Pin.<init>(IZ)V -/
def f_X13_init (h0 : Nat) (x1 : Int32) (x2 : Int32) (σ : mm_M) : Option (mm_M) :=
  (pF σ h0 13 0 (vI x1)).bind fun σ1 =>
  (pZ σ1 h0 13 1 x2).bind fun σ2 =>
  some σ2
/-! IslandHeap$Collect.<init>()V -/
def f_X14_init (h0 : Nat) (σ : mm_M) : Option (mm_M) :=
  some σ
/-! IslandHeap$Allocate.runOn(LIslandHeap;)I -/
noncomputable def f_X9_runOn (h0 : Nat) (a1 : Nat) (σ : mm_M) : Option (Int32 × mm_M) :=
  (gI σ h0 9 0).bind fun v1 =>
  (gI σ h0 9 1).bind fun v2 =>
  (ck σ a1 0).bind fun _ =>
  b2 (f_X0_alloc a1 v1 v2 σ) fun v3 σ4 =>
  some (v3, σ4)
/-! IslandHeap$SetRoot.runOn(LIslandHeap;)I -/
def f_X10_runOn (h0 : Nat) (a1 : Nat) (σ : mm_M) : Option (Int32 × mm_M) :=
  (gI σ h0 10 0).bind fun v1 =>
  (gI σ h0 10 1).bind fun v2 =>
  (ck σ a1 0).bind fun _ =>
  b2 (f_X0_setRoot a1 v1 v2 σ) fun v3 σ4 =>
  some (v3, σ4)
/-! IslandHeap$SetWeak.runOn(LIslandHeap;)I -/
def f_X11_runOn (h0 : Nat) (a1 : Nat) (σ : mm_M) : Option (Int32 × mm_M) :=
  (gI σ h0 11 0).bind fun v1 =>
  (gI σ h0 11 1).bind fun v2 =>
  (ck σ a1 0).bind fun _ =>
  b2 (f_X0_setWeak a1 v1 v2 σ) fun v3 σ4 =>
  some (v3, σ4)
/-! IslandHeap$SetField.runOn(LIslandHeap;)I -/
def f_X12_runOn (h0 : Nat) (a1 : Nat) (σ : mm_M) : Option (Int32 × mm_M) :=
  (gI σ h0 12 0).bind fun v1 =>
  (gI σ h0 12 1).bind fun v2 =>
  (gI σ h0 12 2).bind fun v3 =>
  (ck σ a1 0).bind fun _ =>
  b2 (f_X0_setField a1 v1 v2 v3 σ) fun v4 σ5 =>
  some (v4, σ5)
/-! IslandHeap$Pin.runOn(LIslandHeap;)I -/
noncomputable def f_X13_runOn (h0 : Nat) (a1 : Nat) (σ : mm_M) : Option (Int32 × mm_M) :=
  (gI σ h0 13 0).bind fun v1 =>
  (gI σ h0 13 1).bind fun v2 =>
  (ck σ a1 0).bind fun _ =>
  b2 (f_X0_pin a1 v1 v2 σ) fun v3 σ4 =>
  some (v3, σ4)
/-! IslandHeap$Collect.runOn(LIslandHeap;)I -/
noncomputable def f_X14_runOn (h0 : Nat) (a1 : Nat) (σ : mm_M) : Option (Int32 × mm_M) :=
  (ck σ a1 0).bind fun _ =>
  b2 (f_X0_collect a1 σ) fun v1 σ2 =>
  some (v1, σ2)
/-! IslandHeap.isError(I)Z -/
def f_X0_isError (x0 : Int32) (σ : mm_M) : Option (Int32) :=
  if x0 = (-1000002 : Int32) then (
    some (1 : Int32))
  else (
    if x0 = (-1000003 : Int32) then (
      some (1 : Int32))
    else (
      if x0 = (-1000004 : Int32) then (
        some (1 : Int32))
      else (
        some (0 : Int32))))
/-! IslandHeap.refusal()I -/
def f_X0_refusal (h0 : Nat) (σ : mm_M) : Option (Int32) :=
  (gI σ h0 0 4).bind fun v1 =>
  some v1
/-! IslandHeap$Thing.copy()LIslandHeap$Thing; -/
noncomputable def f_X3_copy (h0 : Nat) (σ : mm_M) : Option (Nat × mm_M) :=
  b2 (nO σ 3 df_3) fun q2 σ1 =>
  (gI σ1 h0 3 0).bind fun v3 =>
  (gA σ1 h0 3 1).bind fun q4 =>
  (aN σ1 q4).bind fun v5 =>
  (gA σ1 h0 3 2).bind fun q6 =>
  (aN σ1 q6).bind fun v7 =>
  (f_X3_init q2 v3 v5 v7 σ1).bind fun σ8 =>
  (gA σ8 h0 3 1).bind fun q9 =>
  (gA σ8 q2 3 1).bind fun q10 =>
  (gA σ8 h0 3 1).bind fun q11 =>
  (aN σ8 q11).bind fun v12 =>
  (cI σ8 q9 (0 : Int32) q10 (0 : Int32) v12).bind fun σ13 =>
  (gA σ13 h0 3 2).bind fun q14 =>
  (gA σ13 q2 3 2).bind fun q15 =>
  (gA σ13 h0 3 2).bind fun q16 =>
  (aN σ13 q16).bind fun v17 =>
  (cI σ13 q14 (0 : Int32) q15 (0 : Int32) v17).bind fun σ18 =>
  (gI σ18 h0 3 3).bind fun v19 =>
  (pZ σ18 q2 3 3 v19).bind fun σ20 =>
  (gI σ20 h0 3 4).bind fun v21 =>
  (pF σ20 q2 3 4 (vI v21)).bind fun σ22 =>
  some (q2, σ22)
/-! IslandHeap$Heap.<init>(LIslandHeap$Heap;)V -/
noncomputable def g_X1_init_2_14 (h0 : Nat) (a1 : Nat) (x2 : Int32)  (cn cs : Nat) (σ : mm_M) : Option (((Int32 × Nat × Nat × mm_M)) ⊕ (mm_M)) :=
  (grd (cn ≤ 900 ∧ cs ≤ 55000)).bind fun _ =>
  (gA σ a1 1 2).bind fun q1 =>
  (ck σ q1 15).bind fun _ =>
  (f_J2_size q1 σ).bind fun v2 =>
  if v2 ≤ x2 then (
    (ck σ h0 1).bind fun _ =>
    (f_X1_occupy h0 σ).bind fun σ4 =>
    (gA σ4 a1 1 4).bind fun q5 =>
    (gA σ4 h0 1 4).bind fun q6 =>
    (cI σ4 q5 (0 : Int32) q6 (0 : Int32) (6 : Int32)).bind fun σ7 =>
    (gA σ7 a1 1 5).bind fun q8 =>
    (gA σ7 h0 1 5).bind fun q9 =>
    (cI σ7 q8 (0 : Int32) q9 (0 : Int32) (4 : Int32)).bind fun σ10 =>
    (gI σ10 a1 1 6).bind fun v11 =>
    (pF σ10 h0 1 6 (vI v11)).bind fun σ12 =>
    (gI σ12 a1 1 7).bind fun v13 =>
    (pF σ12 h0 1 7 (vI v13)).bind fun σ14 =>
    (gI σ14 a1 1 8).bind fun v15 =>
    (pF σ14 h0 1 8 (vI v15)).bind fun σ16 =>
    (gR σ16 a1 1 9).bind fun p17 =>
    (pF σ16 h0 1 9 (vR p17)).bind fun σ18 =>
    (gA σ18 a1 1 10).bind fun q19 =>
    (gA σ18 h0 1 10).bind fun q20 =>
    (cI σ18 q19 (0 : Int32) q20 (0 : Int32) (200 : Int32)).bind fun σ21 =>
    some (.inr σ21))
  else (
    (gA σ h0 1 2).bind fun q22 =>
    (gA σ a1 1 2).bind fun q23 =>
    (ck σ q23 15).bind fun _ =>
    (f_J2_get q23 x2 σ).bind fun p24 =>
    (p24).bind fun q25 =>
    (ck σ q25 3).bind fun _ =>
    (ck σ q25 3).bind fun _ =>
    (grd ((cn + 3) ≤ 900 ∧ (cs + 18) ≤ 55000)).bind fun _ =>
    b2 (f_X3_copy q25 σ) fun q26 σ27 =>
    (ck σ27 q22 15).bind fun _ =>
    (grd (((cn + 3) + 1) ≤ 900 ∧ ((cs + 18) + 250) ≤ 55000)).bind fun _ =>
    b2 (f_J2_add_2 q22 q26 σ27) fun v28 σ29 =>
    some (.inl ((x2 + (1 : Int32)), ((cn + 3) + 1), ((cs + 18) + 250), σ29)))
noncomputable def g_X1_init_2_0 (h0 : Nat) (a1 : Nat)   (σ : mm_M) : Option (((Int32 × Nat × Nat × mm_M)) ⊕ (mm_M)) :=
  (gI σ a1 1 0).bind fun v1 =>
  (gI σ a1 1 1).bind fun v2 =>
  (grd ((0 + 5) ≤ 900 ∧ (0 + 413) ≤ 55000)).bind fun _ =>
  (f_X1_init h0 v1 v2 σ).bind fun σ3 =>
  some (.inl ((0 : Int32), (0 + 5), (0 + 413), σ3))
noncomputable def s_X1_init_2 (h0 : Nat) (a1 : Nat) : (Int32 × Nat × Nat × mm_M) → Option (((Int32 × Nat × Nat × mm_M)) ⊕ (mm_M)) := fun s => g_X1_init_2_14 h0 a1 s.1 s.2.1 s.2.2.1 s.2.2.2
noncomputable def f_X1_init_2 (h0 : Nat) (a1 : Nat) (σ : mm_M) : Option (mm_M) := lgo (s_X1_init_2 h0 a1) (g_X1_init_2_0 h0 a1 σ)
/-! IslandHeap.save(I)I -/
noncomputable def f_X0_save (h0 : Nat) (x1 : Int32) (σ : mm_M) : Option (Int32 × mm_M) :=
  (f_X0_isIn x1 (0 : Int32) (1 : Int32) σ).bind fun v1 =>
  if v1 = 0 then (
    some ((-1000002 : Int32), σ))
  else (
    (gA σ h0 0 5).bind fun q3 =>
    b2 (nO σ 1 df_1) fun q5 σ4 =>
    (gA σ4 h0 0 0).bind fun q6 =>
    (f_X1_init_2 q5 q6 σ4).bind fun σ7 =>
    (sR σ7 q3 4 x1 (some q5)).bind fun σ8 =>
    (gA σ8 h0 0 0).bind fun q9 =>
    (gA σ8 q9 1 2).bind fun q10 =>
    (ck σ8 q10 15).bind fun _ =>
    (f_J2_size q10 σ8).bind fun v11 =>
    some (v11, σ8))
/-! IslandHeap.restore(I)I -/
noncomputable def f_X0_restore (h0 : Nat) (x1 : Int32) (σ : mm_M) : Option (Int32 × mm_M) :=
  (f_X0_isIn x1 (0 : Int32) (1 : Int32) σ).bind fun v1 =>
  if v1 = 0 then (
    some ((-1000002 : Int32), σ))
  else (
    (gA σ h0 0 5).bind fun q3 =>
    (aR σ q3 4 x1).bind fun p4 =>
    mt p4 (
      some ((-1000003 : Int32), σ)) (fun q5 =>
      b2 (nO σ 1 df_1) fun q7 σ6 =>
      (gA σ6 h0 0 5).bind fun q8 =>
      (aR σ6 q8 4 x1).bind fun p9 =>
      (p9).bind fun q10 =>
      (f_X1_init_2 q7 q10 σ6).bind fun σ11 =>
      (pF σ11 h0 0 0 (vR (some q7))).bind fun σ12 =>
      (gA σ12 h0 0 0).bind fun q13 =>
      (gA σ12 q13 1 2).bind fun q14 =>
      (ck σ12 q14 15).bind fun _ =>
      (f_J2_size q14 σ12).bind fun v15 =>
      some (v15, σ12)))
/-! IslandHeap.count(I)I -/
noncomputable def f_X0_count (h0 : Nat) (x1 : Int32) (σ : mm_M) : Option (Int32) :=
  if x1 = (0 : Int32) then (
    (gA σ h0 0 0).bind fun q9 =>
    (gI σ q9 1 0).bind fun v10 =>
    some v10)
  else (
    if x1 = (1 : Int32) then (
      (gA σ h0 0 0).bind fun q11 =>
      (gI σ q11 1 1).bind fun v12 =>
      some v12)
    else (
      if x1 = (2 : Int32) then (
        (gA σ h0 0 0).bind fun q13 =>
        (gA σ q13 1 2).bind fun q14 =>
        (ck σ q14 15).bind fun _ =>
        (f_J2_size q14 σ).bind fun v15 =>
        some v15)
      else (
        if x1 = (3 : Int32) then (
          (gA σ h0 0 0).bind fun q16 =>
          (ck σ q16 1).bind fun _ =>
          (f_X1_pinned q16 σ).bind fun v17 =>
          some v17)
        else (
          if x1 = (4 : Int32) then (
            (gA σ h0 0 0).bind fun q18 =>
            (gI σ q18 1 6).bind fun v19 =>
            some v19)
          else (
            if x1 = (5 : Int32) then (
              (gA σ h0 0 0).bind fun q20 =>
              (gI σ q20 1 7).bind fun v21 =>
              some v21)
            else (
              if x1 = (6 : Int32) then (
                (gA σ h0 0 0).bind fun q22 =>
                (gI σ q22 1 8).bind fun v23 =>
                some v23)
              else (
                if x1 = (7 : Int32) then (
                  (gI σ h0 0 3).bind fun v24 =>
                  some v24)
                else (
                  some (-1000002 : Int32)))))))))
/-! IslandHeap.mix(J)V -/
def f_X0_mix (h0 : Nat) (z1 : Int64) (σ : mm_M) : Option (mm_M) :=
  (gL σ h0 0 6).bind fun w1 =>
  (pF σ h0 0 6 (vL (((31 : Int64) * w1) + z1))).bind fun σ2 =>
  some σ2
/-! IslandHeap.mixRow([I)V -/
noncomputable def g_X0_mixRow_8 (h0 : Nat) (a1 : Nat) (a2 : Nat) (x3 : Int32) (x4 : Int32)  (σ : mm_M) : Option (((Nat × Int32 × Int32 × mm_M)) ⊕ (mm_M)) :=
  if x3 ≤ x4 then (
    some (.inr σ))
  else (
    (aI σ a2 0 x4).bind fun v2 =>
    (ck σ h0 0).bind fun _ =>
    (f_X0_mix h0 v2.toInt64 σ).bind fun σ3 =>
    some (.inl (a2, x3, (x4 + (1 : Int32)), σ3)))
noncomputable def g_X0_mixRow_0 (h0 : Nat) (a1 : Nat)   (σ : mm_M) : Option (((Nat × Int32 × Int32 × mm_M)) ⊕ (mm_M)) :=
  (aN σ a1).bind fun v1 =>
  some (.inl (a1, v1, (0 : Int32), σ))
noncomputable def s_X0_mixRow (h0 : Nat) (a1 : Nat) : (Nat × Int32 × Int32 × mm_M) → Option (((Nat × Int32 × Int32 × mm_M)) ⊕ (mm_M)) := fun s => g_X0_mixRow_8 h0 a1 s.1 s.2.1 s.2.2.1 s.2.2.2
noncomputable def f_X0_mixRow (h0 : Nat) (a1 : Nat) (σ : mm_M) : Option (mm_M) := lgo (s_X0_mixRow h0 a1) (g_X0_mixRow_0 h0 a1 σ)
/-! IslandHeap.mixThing(LIslandHeap$Thing;)V -/
noncomputable def g_X0_mixThing_2 (h0 : Nat) (a1 : Nat) (x2 : Int32)  (cn cs : Nat) (σ : mm_M) : Option (((Int32 × Nat × Nat × mm_M)) ⊕ (mm_M)) :=
  (grd (cn ≤ 8 ∧ cs ≤ 64)).bind fun _ =>
  if (8 : Int32) ≤ x2 then (
    (gA σ a1 3 1).bind fun q2 =>
    (ck σ h0 0).bind fun _ =>
    (f_X0_mixRow h0 q2 σ).bind fun σ3 =>
    (gA σ3 a1 3 2).bind fun q4 =>
    (ck σ3 h0 0).bind fun _ =>
    (f_X0_mixRow h0 q4 σ3).bind fun σ5 =>
    some (.inr σ5))
  else (
    (gI σ a1 3 0).bind fun v6 =>
    (ck σ h0 0).bind fun _ =>
    (grd ((cn + 1) ≤ 8 ∧ (cs + 8) ≤ 64)).bind fun _ =>
    b2 (f_X0_object h0 v6 x2 σ) fun v7 σ8 =>
    (ck σ8 h0 0).bind fun _ =>
    (f_X0_mix h0 v7.toInt64 σ8).bind fun σ9 =>
    some (.inl ((x2 + (1 : Int32)), (cn + 1), (cs + 8), σ9)))
noncomputable def g_X0_mixThing_0 (h0 : Nat) (a1 : Nat)   (σ : mm_M) : Option (((Int32 × Nat × Nat × mm_M)) ⊕ (mm_M)) :=
  some (.inl ((0 : Int32), 0, 0, σ))
noncomputable def s_X0_mixThing (h0 : Nat) (a1 : Nat) : (Int32 × Nat × Nat × mm_M) → Option (((Int32 × Nat × Nat × mm_M)) ⊕ (mm_M)) := fun s => g_X0_mixThing_2 h0 a1 s.1 s.2.1 s.2.2.1 s.2.2.2
noncomputable def f_X0_mixThing (h0 : Nat) (a1 : Nat) (σ : mm_M) : Option (mm_M) := lgo (s_X0_mixThing h0 a1) (g_X0_mixThing_0 h0 a1 σ)
/-! IslandHeap.digest()J -/
noncomputable def g_X0_digest_9 (h0 : Nat) (x1 : Int32)  (cn cs : Nat) (σ : mm_M) : Option (((Int32 × Nat × Nat × mm_M) ⊕ (Int32 × Nat × Nat × mm_M) ⊕ (Int32 × Nat × Nat × mm_M) ⊕ (Int32 × Nat × Nat × mm_M) ⊕ (Int32 × Nat × Nat × mm_M)) ⊕ (Int64 × mm_M)) :=
  (grd (cn ≤ 1700 ∧ cs ≤ 13000)).bind fun _ =>
  if (7 : Int32) < x1 then (
    (gA σ h0 0 0).bind fun q2 =>
    (gA σ q2 1 4).bind fun q3 =>
    (ck σ h0 0).bind fun _ =>
    (f_X0_mixRow h0 q3 σ).bind fun σ4 =>
    (gA σ4 h0 0 0).bind fun q5 =>
    (gA σ4 q5 1 5).bind fun q6 =>
    (ck σ4 h0 0).bind fun _ =>
    (f_X0_mixRow h0 q6 σ4).bind fun σ7 =>
    some (.inl (.inr (.inl ((0 : Int32), cn, cs, σ7)))))
  else (
    (ck σ h0 0).bind fun _ =>
    (f_X0_count h0 x1 σ).bind fun v8 =>
    (ck σ h0 0).bind fun _ =>
    (f_X0_mix h0 v8.toInt64 σ).bind fun σ9 =>
    some (.inl (.inl ((x1 + (1 : Int32)), cn, cs, σ9))))
noncomputable def g_X0_digest_55 (h0 : Nat) (x1 : Int32)  (cn cs : Nat) (σ : mm_M) : Option (((Int32 × Nat × Nat × mm_M) ⊕ (Int32 × Nat × Nat × mm_M) ⊕ (Int32 × Nat × Nat × mm_M) ⊕ (Int32 × Nat × Nat × mm_M) ⊕ (Int32 × Nat × Nat × mm_M)) ⊕ (Int64 × mm_M)) :=
  (grd (cn ≤ 1700 ∧ cs ≤ 13000)).bind fun _ =>
  (gA σ h0 0 0).bind fun q1 =>
  (gA σ q1 1 2).bind fun q2 =>
  (ck σ q2 15).bind fun _ =>
  (f_J2_size q2 σ).bind fun v3 =>
  if v3 ≤ x1 then (
    some (.inl (.inr (.inr (.inl ((0 : Int32), cn, cs, σ))))))
  else (
    (gA σ h0 0 0).bind fun q5 =>
    (gA σ q5 1 2).bind fun q6 =>
    (ck σ q6 15).bind fun _ =>
    (f_J2_get q6 x1 σ).bind fun p7 =>
    (p7).bind fun q8 =>
    (ck σ q8 3).bind fun _ =>
    (ck σ h0 0).bind fun _ =>
    (grd ((cn + 8) ≤ 1700 ∧ (cs + 64) ≤ 13000)).bind fun _ =>
    (f_X0_mixThing h0 q8 σ).bind fun σ9 =>
    some (.inl (.inr (.inl ((x1 + (1 : Int32)), (cn + 8), (cs + 64), σ9)))))
noncomputable def g_X0_digest_95 (h0 : Nat) (x1 : Int32)  (cn cs : Nat) (σ : mm_M) : Option (((Int32 × Nat × Nat × mm_M) ⊕ (Int32 × Nat × Nat × mm_M) ⊕ (Int32 × Nat × Nat × mm_M) ⊕ (Int32 × Nat × Nat × mm_M) ⊕ (Int32 × Nat × Nat × mm_M)) ⊕ (Int64 × mm_M)) :=
  (grd (cn ≤ 1700 ∧ cs ≤ 13000)).bind fun _ =>
  if (4 : Int32) < x1 then (
    some (.inl (.inr (.inr (.inr (.inl ((0 : Int32), cn, cs, σ)))))))
  else (
    (ck σ h0 0).bind fun _ =>
    (f_X0_free h0 x1 σ).bind fun v2 =>
    (ck σ h0 0).bind fun _ =>
    (f_X0_mix h0 v2.toInt64 σ).bind fun σ3 =>
    some (.inl (.inr (.inr (.inl ((x1 + (1 : Int32)), cn, cs, σ3))))))
noncomputable def g_X0_digest_118 (h0 : Nat) (x1 : Int32)  (cn cs : Nat) (σ : mm_M) : Option (((Int32 × Nat × Nat × mm_M) ⊕ (Int32 × Nat × Nat × mm_M) ⊕ (Int32 × Nat × Nat × mm_M) ⊕ (Int32 × Nat × Nat × mm_M) ⊕ (Int32 × Nat × Nat × mm_M)) ⊕ (Int64 × mm_M)) :=
  (grd (cn ≤ 1700 ∧ cs ≤ 13000)).bind fun _ =>
  if (5 : Int32) < x1 then (
    some (.inl (.inr (.inr (.inr (.inr ((0 : Int32), cn, cs, σ)))))))
  else (
    (gA σ h0 0 0).bind fun q2 =>
    (gR σ q2 1 9).bind fun p3 =>
    mt p3 (
      some (.inl (.inr (.inr (.inr (.inr ((0 : Int32), cn, cs, σ))))))) (fun q4 =>
      (ck σ h0 0).bind fun _ =>
      (f_X0_report h0 x1 σ).bind fun v5 =>
      (ck σ h0 0).bind fun _ =>
      (f_X0_mix h0 v5.toInt64 σ).bind fun σ6 =>
      some (.inl (.inr (.inr (.inr (.inl ((x1 + (1 : Int32)), cn, cs, σ6))))))))
noncomputable def g_X0_digest_151 (h0 : Nat) (x1 : Int32)  (cn cs : Nat) (σ : mm_M) : Option (((Int32 × Nat × Nat × mm_M) ⊕ (Int32 × Nat × Nat × mm_M) ⊕ (Int32 × Nat × Nat × mm_M) ⊕ (Int32 × Nat × Nat × mm_M) ⊕ (Int32 × Nat × Nat × mm_M)) ⊕ (Int64 × mm_M)) :=
  (grd (cn ≤ 1700 ∧ cs ≤ 13000)).bind fun _ =>
  (gI σ h0 0 3).bind fun v1 =>
  if v1 ≤ x1 then (
    (gL σ h0 0 6).bind fun w3 =>
    some (.inr (w3, σ)))
  else (
    (gA σ h0 0 2).bind fun q4 =>
    (aI σ q4 2 x1).bind fun v5 =>
    (ck σ h0 0).bind fun _ =>
    (f_X0_mix h0 v5.toInt64 σ).bind fun σ6 =>
    some (.inl (.inr (.inr (.inr (.inr ((x1 + (1 : Int32)), cn, cs, σ6)))))))
noncomputable def g_X0_digest_0 (h0 : Nat)   (σ : mm_M) : Option (((Int32 × Nat × Nat × mm_M) ⊕ (Int32 × Nat × Nat × mm_M) ⊕ (Int32 × Nat × Nat × mm_M) ⊕ (Int32 × Nat × Nat × mm_M) ⊕ (Int32 × Nat × Nat × mm_M)) ⊕ (Int64 × mm_M)) :=
  (pF σ h0 0 6 (vL (47 : Int64))).bind fun σ1 =>
  some (.inl (.inl ((0 : Int32), 0, 0, σ1)))
noncomputable def s_X0_digest (h0 : Nat) : (Int32 × Nat × Nat × mm_M) ⊕ (Int32 × Nat × Nat × mm_M) ⊕ (Int32 × Nat × Nat × mm_M) ⊕ (Int32 × Nat × Nat × mm_M) ⊕ (Int32 × Nat × Nat × mm_M) → Option (((Int32 × Nat × Nat × mm_M) ⊕ (Int32 × Nat × Nat × mm_M) ⊕ (Int32 × Nat × Nat × mm_M) ⊕ (Int32 × Nat × Nat × mm_M) ⊕ (Int32 × Nat × Nat × mm_M)) ⊕ (Int64 × mm_M)) := fun s => match s with
  | (.inl s) => g_X0_digest_9 h0 s.1 s.2.1 s.2.2.1 s.2.2.2
  | (.inr (.inl s)) => g_X0_digest_55 h0 s.1 s.2.1 s.2.2.1 s.2.2.2
  | (.inr (.inr (.inl s))) => g_X0_digest_95 h0 s.1 s.2.1 s.2.2.1 s.2.2.2
  | (.inr (.inr (.inr (.inl s)))) => g_X0_digest_118 h0 s.1 s.2.1 s.2.2.1 s.2.2.2
  | (.inr (.inr (.inr (.inr s)))) => g_X0_digest_151 h0 s.1 s.2.1 s.2.2.1 s.2.2.2
noncomputable def f_X0_digest (h0 : Nat) (σ : mm_M) : Option (Int64 × mm_M) := lgo (s_X0_digest h0) (g_X0_digest_0 h0 σ)
/-! IslandHeapModel.begins(II)V -/
noncomputable def g_X2_begins_2 (h0 : Nat) (x1 : Int32) (x2 : Int32) (x3 : Int32)  (σ : mm_M) : Option (((Int32 × mm_M)) ⊕ (mm_M)) :=
  if (1222 : Int32) ≤ x3 then (
    (gA σ h0 2 0).bind fun q2 =>
    (sI σ q2 0 (1216 : Int32) x1).bind fun σ3 =>
    (gA σ3 h0 2 0).bind fun q4 =>
    (sI σ3 q4 0 (1217 : Int32) x2).bind fun σ5 =>
    some (.inr σ5))
  else (
    (gA σ h0 2 0).bind fun q6 =>
    if x3 < (1200 : Int32) then (
      (sI σ q6 0 x3 (0 : Int32)).bind fun σ8 =>
      some (.inl ((x3 + (1 : Int32)), σ8)))
    else (
      if (1210 : Int32) ≤ x3 then (
        (sI σ q6 0 x3 (0 : Int32)).bind fun σ10 =>
        some (.inl ((x3 + (1 : Int32)), σ10)))
      else (
        (sI σ q6 0 x3 (-1 : Int32)).bind fun σ11 =>
        some (.inl ((x3 + (1 : Int32)), σ11)))))
noncomputable def g_X2_begins_0 (h0 : Nat) (x1 : Int32) (x2 : Int32)   (σ : mm_M) : Option (((Int32 × mm_M)) ⊕ (mm_M)) :=
  some (.inl ((0 : Int32), σ))
noncomputable def s_X2_begins (h0 : Nat) (x1 : Int32) (x2 : Int32) : (Int32 × mm_M) → Option (((Int32 × mm_M)) ⊕ (mm_M)) := fun s => g_X2_begins_2 h0 x1 x2 s.1 s.2
noncomputable def f_X2_begins (h0 : Nat) (x1 : Int32) (x2 : Int32) (σ : mm_M) : Option (mm_M) := lgo (s_X2_begins h0 x1 x2) (g_X2_begins_0 h0 x1 x2 σ)
/-! IslandHeapModel.<init>()V -/
noncomputable def f_X2_init (h0 : Nat) (σ : mm_M) : Option (mm_M) :=
  b2 (nA σ 0 (1222 : Int32) 1222) fun q2 σ1 =>
  (pF σ1 h0 2 0 (vR (some q2))).bind fun σ3 =>
  b2 (nA σ3 0 (1222 : Int32) 1222) fun q5 σ4 =>
  (pF σ4 h0 2 1 (vR (some q5))).bind fun σ6 =>
  b2 (nA σ6 0 (2444 : Int32) 2444) fun q8 σ7 =>
  (pF σ7 h0 2 2 (vR (some q8))).bind fun σ9 =>
  b2 (nA σ9 1 (2 : Int32) 2) fun q11 σ10 =>
  (pF σ10 h0 2 3 (vR (some q11))).bind fun σ12 =>
  b2 (nA σ12 0 (80 : Int32) 80) fun q14 σ13 =>
  (pF σ13 h0 2 4 (vR (some q14))).bind fun σ15 =>
  (pF σ15 h0 2 6 (vI (-1 : Int32))).bind fun σ16 =>
  b2 (nA σ16 0 (200 : Int32) 200) fun q18 σ17 =>
  (pF σ17 h0 2 7 (vR (some q18))).bind fun σ19 =>
  b2 (nA σ19 1 (200 : Int32) 200) fun q21 σ20 =>
  (pF σ20 h0 2 8 (vR (some q21))).bind fun σ22 =>
  b2 (nA σ22 0 (20 : Int32) 20) fun q24 σ23 =>
  (pF σ23 h0 2 9 (vR (some q24))).bind fun σ25 =>
  b2 (nA σ25 0 (160 : Int32) 160) fun q27 σ26 =>
  (pF σ26 h0 2 13 (vR (some q27))).bind fun σ28 =>
  (ck σ28 h0 2).bind fun _ =>
  (f_X2_begins h0 (100 : Int32) (8 : Int32) σ28).bind fun σ29 =>
  some σ29
/-! IslandHeapModel.in(III)Z -/
def f_X2_in (x0 : Int32) (x1 : Int32) (x2 : Int32) (σ : mm_M) : Option (Int32) :=
  if x0 < x1 then (
    some (0 : Int32))
  else (
    if x2 < x0 then (
      some (0 : Int32))
    else (
      some (1 : Int32)))
/-! IslandHeapModel.reset(II)I -/
noncomputable def f_X2_reset (h0 : Nat) (x1 : Int32) (x2 : Int32) (σ : mm_M) : Option (Int32 × mm_M) :=
  (f_X2_in x1 (8 : Int32) (200 : Int32) σ).bind fun v1 =>
  if v1 = 0 then (
    some ((-1000002 : Int32), σ))
  else (
    (f_X2_in x2 (1 : Int32) (20 : Int32) σ).bind fun v3 =>
    if v3 = 0 then (
      some ((-1000002 : Int32), σ))
    else (
      (ck σ h0 2).bind fun _ =>
      (f_X2_begins h0 x1 x2 σ).bind fun σ5 =>
      some (x1, σ5)))
/-! IslandHeapModel.lays(III)V -/
noncomputable def g_X2_lays_49 (h0 : Nat) (x1 : Int32) (x2 : Int32) (x3 : Int32) (x4 : Int32)  (σ : mm_M) : Option (((Int32 × mm_M)) ⊕ (mm_M)) :=
  if (x2 + x3) < x4 then (
    (gA σ h0 2 0).bind fun q2 =>
    (aI σ q2 0 (1218 : Int32)).bind fun v3 =>
    (sI σ q2 0 (1218 : Int32) (v3 + (1 : Int32))).bind fun σ4 =>
    some (.inr σ4))
  else (
    (gA σ h0 2 0).bind fun q5 =>
    if x2 < x4 then (
      (sI σ q5 0 (((800 : Int32) + x1) + x4) (0 : Int32)).bind fun σ7 =>
      some (.inl ((x4 + (1 : Int32)), σ7)))
    else (
      (sI σ q5 0 (((800 : Int32) + x1) + x4) (-1 : Int32)).bind fun σ8 =>
      some (.inl ((x4 + (1 : Int32)), σ8))))
noncomputable def g_X2_lays_0 (h0 : Nat) (x1 : Int32) (x2 : Int32) (x3 : Int32)   (σ : mm_M) : Option (((Int32 × mm_M)) ⊕ (mm_M)) :=
  (gA σ h0 2 0).bind fun q1 =>
  (sI σ q1 0 ((0 : Int32) + x1) (((1 : Int32) + x2) + x3)).bind fun σ2 =>
  (gA σ2 h0 2 0).bind fun q3 =>
  (sI σ2 q3 0 ((200 : Int32) + x1) x2).bind fun σ4 =>
  (gA σ4 h0 2 0).bind fun q5 =>
  (sI σ4 q5 0 ((400 : Int32) + x1) (0 : Int32)).bind fun σ6 =>
  (gA σ6 h0 2 0).bind fun q7 =>
  (sI σ6 q7 0 ((600 : Int32) + x1) (0 : Int32)).bind fun σ8 =>
  some (.inl ((1 : Int32), σ8))
noncomputable def s_X2_lays (h0 : Nat) (x1 : Int32) (x2 : Int32) (x3 : Int32) : (Int32 × mm_M) → Option (((Int32 × mm_M)) ⊕ (mm_M)) := fun s => g_X2_lays_49 h0 x1 x2 x3 s.1 s.2
noncomputable def f_X2_lays (h0 : Nat) (x1 : Int32) (x2 : Int32) (x3 : Int32) (σ : mm_M) : Option (mm_M) := lgo (s_X2_lays h0 x1 x2 x3) (g_X2_lays_0 h0 x1 x2 x3 σ)
/-! IslandHeapModel.alloc(II)I -/
noncomputable def g_X2_alloc_32 (h0 : Nat) (x1 : Int32) (x2 : Int32) (x3 : Int32) (x4 : Int32)  (σ : mm_M) : Option (((Int32 × Int32 × mm_M) ⊕ (Int32 × Int32 × Int32 × mm_M)) ⊕ (Int32 × mm_M)) :=
  (gA σ h0 2 0).bind fun q1 =>
  (aI σ q1 0 (1216 : Int32)).bind fun v2 =>
  if v2 < (x4 + x3) then (
    some (.inr ((-1000004 : Int32), σ)))
  else (
    some (.inl (.inr (x3, x4, (0 : Int32), σ))))
noncomputable def g_X2_alloc_77 (h0 : Nat) (x1 : Int32) (x2 : Int32) (x3 : Int32) (x4 : Int32) (x5 : Int32)  (σ : mm_M) : Option (((Int32 × Int32 × mm_M) ⊕ (Int32 × Int32 × Int32 × mm_M)) ⊕ (Int32 × mm_M)) :=
  if x5 = x3 then (
    (ck σ h0 2).bind fun _ =>
    (f_X2_lays h0 x4 x1 x2 σ).bind fun σ4 =>
    some (.inr (x4, σ4)))
  else (
    (gA σ h0 2 0).bind fun q2 =>
    (aI σ q2 0 (((0 : Int32) + x4) + x5)).bind fun v3 =>
    some (.inl (.inl (x3, (x4 + (x5 + v3)), σ))))
noncomputable def g_X2_alloc_50 (h0 : Nat) (x1 : Int32) (x2 : Int32) (x3 : Int32) (x4 : Int32) (x5 : Int32)  (σ : mm_M) : Option (((Int32 × Int32 × mm_M) ⊕ (Int32 × Int32 × Int32 × mm_M)) ⊕ (Int32 × mm_M)) :=
  if x3 ≤ x5 then (
    g_X2_alloc_77 h0 x1 x2 x3 x4 x5 σ)
  else (
    (gA σ h0 2 0).bind fun q2 =>
    (aI σ q2 0 (((0 : Int32) + x4) + x5)).bind fun v3 =>
    if v3 = 0 then (
      some (.inl (.inr (x3, x4, (x5 + (1 : Int32)), σ))))
    else (
      g_X2_alloc_77 h0 x1 x2 x3 x4 x5 σ))
noncomputable def g_X2_alloc_0 (h0 : Nat) (x1 : Int32) (x2 : Int32)   (σ : mm_M) : Option (((Int32 × Int32 × mm_M) ⊕ (Int32 × Int32 × Int32 × mm_M)) ⊕ (Int32 × mm_M)) :=
  (f_X2_in x1 (0 : Int32) (6 : Int32) σ).bind fun v1 =>
  if v1 = 0 then (
    some (.inr ((-1000002 : Int32), σ)))
  else (
    (f_X2_in x2 (0 : Int32) (6 : Int32) σ).bind fun v3 =>
    if v3 = 0 then (
      some (.inr ((-1000002 : Int32), σ)))
    else (
      some (.inl (.inl ((((1 : Int32) + x1) + x2), (0 : Int32), σ)))))
noncomputable def s_X2_alloc (h0 : Nat) (x1 : Int32) (x2 : Int32) : (Int32 × Int32 × mm_M) ⊕ (Int32 × Int32 × Int32 × mm_M) → Option (((Int32 × Int32 × mm_M) ⊕ (Int32 × Int32 × Int32 × mm_M)) ⊕ (Int32 × mm_M)) := fun s => match s with
  | (.inl s) => g_X2_alloc_32 h0 x1 x2 s.1 s.2.1 s.2.2
  | (.inr s) => g_X2_alloc_50 h0 x1 x2 s.1 s.2.1 s.2.2.1 s.2.2.2
noncomputable def f_X2_alloc (h0 : Nat) (x1 : Int32) (x2 : Int32) (σ : mm_M) : Option (Int32 × mm_M) := lgo (s_X2_alloc h0 x1 x2) (g_X2_alloc_0 h0 x1 x2 σ)
/-! IslandHeapModel.objectOf(I)I -/
noncomputable def g_X2_objectOf_43 (h0 : Nat) (x1 : Int32) (x2 : Int32)  (σ : mm_M) : Option (((Int32)) ⊕ (Int32)) :=
  if x2 < 0 then (
    some (.inr (-1 : Int32)))
  else (
    (gA σ h0 2 0).bind fun q2 =>
    (aI σ q2 0 ((0 : Int32) + x2)).bind fun v3 =>
    if (x2 + v3) ≤ x1 then (
      some (.inr (-1 : Int32)))
    else (
      some (.inr x2)))
noncomputable def g_X2_objectOf_22 (h0 : Nat) (x1 : Int32) (x2 : Int32)  (σ : mm_M) : Option (((Int32)) ⊕ (Int32)) :=
  if x2 < 0 then (
    g_X2_objectOf_43 h0 x1 x2 σ)
  else (
    (gA σ h0 2 0).bind fun q2 =>
    (aI σ q2 0 ((0 : Int32) + x2)).bind fun v3 =>
    if v3 = 0 then (
      some (.inl (x2 + (-1 : Int32))))
    else (
      g_X2_objectOf_43 h0 x1 x2 σ))
noncomputable def g_X2_objectOf_0 (h0 : Nat) (x1 : Int32)   (σ : mm_M) : Option (((Int32)) ⊕ (Int32)) :=
  (gA σ h0 2 0).bind fun q1 =>
  (aI σ q1 0 (1216 : Int32)).bind fun v2 =>
  (f_X2_in x1 (0 : Int32) (v2 - (1 : Int32)) σ).bind fun v3 =>
  if v3 = 0 then (
    some (.inr (-1 : Int32)))
  else (
    some (.inl x1))
noncomputable def s_X2_objectOf (h0 : Nat) (x1 : Int32) (σ : mm_M) : (Int32) → Option (((Int32)) ⊕ (Int32)) := fun s => g_X2_objectOf_22 h0 x1 s σ
noncomputable def f_X2_objectOf (h0 : Nat) (x1 : Int32) (σ : mm_M) : Option (Int32) := lgo (s_X2_objectOf h0 x1 σ) (g_X2_objectOf_0 h0 x1 σ)
/-! IslandHeapModel.dataOf(I)I -/
def f_X2_dataOf (h0 : Nat) (x1 : Int32) (σ : mm_M) : Option (Int32) :=
  (gA σ h0 2 0).bind fun q1 =>
  (aI σ q1 0 ((0 : Int32) + x1)).bind fun v2 =>
  (gA σ h0 2 0).bind fun q3 =>
  (aI σ q3 0 ((200 : Int32) + x1)).bind fun v4 =>
  some ((v2 - (1 : Int32)) - v4)
/-! IslandHeapModel.referring(I)I -/
noncomputable def g_X2_referring_4 (h0 : Nat) (x1 : Int32) (x2 : Int32) (x3 : Int32)  (σ : mm_M) : Option (((Int32 × Int32) ⊕ (Int32 × Int32) ⊕ (Int32 × Int32 × Int32)) ⊕ (Int32)) :=
  if (10 : Int32) ≤ x3 then (
    some (.inl (.inr (.inl (x2, (0 : Int32))))))
  else (
    (gA σ h0 2 0).bind fun q2 =>
    (aI σ q2 0 ((1200 : Int32) + x3)).bind fun v3 =>
    if v3 = (-1 : Int32) then (
      some (.inl (.inl ((x2 + (0 : Int32)), (x3 + (1 : Int32))))))
    else (
      (gA σ h0 2 0).bind fun q5 =>
      (aI σ q5 0 ((1200 : Int32) + x3)).bind fun v6 =>
      (ck σ h0 2).bind fun _ =>
      (f_X2_objectOf h0 v6 σ).bind fun v7 =>
      if v7 = x1 then (
        some (.inl (.inl ((x2 + (1 : Int32)), (x3 + (1 : Int32))))))
      else (
        some (.inl (.inl ((x2 + (0 : Int32)), (x3 + (1 : Int32))))))))
noncomputable def g_X2_referring_58 (h0 : Nat) (x1 : Int32) (x2 : Int32) (x3 : Int32)  (σ : mm_M) : Option (((Int32 × Int32) ⊕ (Int32 × Int32) ⊕ (Int32 × Int32 × Int32)) ⊕ (Int32)) :=
  (gA σ h0 2 0).bind fun q1 =>
  (aI σ q1 0 (1216 : Int32)).bind fun v2 =>
  if v2 ≤ x3 then (
    some (.inr x2))
  else (
    some (.inl (.inr (.inr (x2, x3, (1 : Int32))))))
noncomputable def g_X2_referring_73 (h0 : Nat) (x1 : Int32) (x2 : Int32) (x3 : Int32) (x4 : Int32)  (σ : mm_M) : Option (((Int32 × Int32) ⊕ (Int32 × Int32) ⊕ (Int32 × Int32 × Int32)) ⊕ (Int32)) :=
  (gA σ h0 2 0).bind fun q1 =>
  (aI σ q1 0 ((200 : Int32) + x3)).bind fun v2 =>
  if v2 < x4 then (
    some (.inl (.inr (.inl (x2, (x3 + (1 : Int32)))))))
  else (
    (gA σ h0 2 0).bind fun q4 =>
    (aI σ q4 0 ((0 : Int32) + x3)).bind fun v5 =>
    if v5 ≤ 0 then (
      some (.inl (.inr (.inl (x2, (x3 + (1 : Int32)))))))
    else (
      (gA σ h0 2 0).bind fun q7 =>
      (aI σ q7 0 (((800 : Int32) + x3) + x4)).bind fun v8 =>
      if v8 = (-1 : Int32) then (
        some (.inl (.inr (.inr ((x2 + (0 : Int32)), x3, (x4 + (1 : Int32)))))))
      else (
        (gA σ h0 2 0).bind fun q10 =>
        (aI σ q10 0 (((800 : Int32) + x3) + x4)).bind fun v11 =>
        (ck σ h0 2).bind fun _ =>
        (f_X2_objectOf h0 v11 σ).bind fun v12 =>
        if v12 = x1 then (
          some (.inl (.inr (.inr ((x2 + (1 : Int32)), x3, (x4 + (1 : Int32)))))))
        else (
          some (.inl (.inr (.inr ((x2 + (0 : Int32)), x3, (x4 + (1 : Int32))))))))))
noncomputable def g_X2_referring_0 (h0 : Nat) (x1 : Int32)   (σ : mm_M) : Option (((Int32 × Int32) ⊕ (Int32 × Int32) ⊕ (Int32 × Int32 × Int32)) ⊕ (Int32)) :=
  some (.inl (.inl ((0 : Int32), (0 : Int32))))
noncomputable def s_X2_referring (h0 : Nat) (x1 : Int32) (σ : mm_M) : (Int32 × Int32) ⊕ (Int32 × Int32) ⊕ (Int32 × Int32 × Int32) → Option (((Int32 × Int32) ⊕ (Int32 × Int32) ⊕ (Int32 × Int32 × Int32)) ⊕ (Int32)) := fun s => match s with
  | (.inl s) => g_X2_referring_4 h0 x1 s.1 s.2 σ
  | (.inr (.inl s)) => g_X2_referring_58 h0 x1 s.1 s.2 σ
  | (.inr (.inr s)) => g_X2_referring_73 h0 x1 s.1 s.2.1 s.2.2 σ
noncomputable def f_X2_referring (h0 : Nat) (x1 : Int32) (σ : mm_M) : Option (Int32) := lgo (s_X2_referring h0 x1 σ) (g_X2_referring_0 h0 x1 σ)
/-! IslandHeapModel.starts(II)V -/
noncomputable def g_X2_starts_14 (h0 : Nat) (x1 : Int32) (x2 : Int32)  (t0 : Int32) (σ : mm_M) : Option (mm_M) :=
  if t0 = (-1 : Int32) then (
    some σ)
  else (
    if t0 = x2 then (
      some σ)
    else (
      (gA σ h0 2 7).bind fun q3 =>
      (sI σ q3 0 t0 (0 : Int32)).bind fun σ4 =>
      some σ4))
noncomputable def f_X2_starts (h0 : Nat) (x1 : Int32) (x2 : Int32) (σ : mm_M) : Option (mm_M) :=
  if x1 = (-1 : Int32) then (
    g_X2_starts_14 h0 x1 x2 (-1 : Int32) σ)
  else (
    (ck σ h0 2).bind fun _ =>
    (f_X2_objectOf h0 x1 σ).bind fun v2 =>
    g_X2_starts_14 h0 x1 x2 v2 σ)
/-! IslandHeapModel.reaches(I)V -/
noncomputable def g_X2_reaches_2 (h0 : Nat) (x1 : Int32) (x2 : Int32)  (σ : mm_M) : Option (((Int32 × mm_M) ⊕ (Int32 × mm_M) ⊕ (Int32 × mm_M) ⊕ (Int32 × Int32 × mm_M) ⊕ (Int32 × Int32 × Int32 × mm_M) ⊕ (Int32 × Int32 × Int32 × Int32 × mm_M)) ⊕ (mm_M)) :=
  if (200 : Int32) ≤ x2 then (
    some (.inl (.inr (.inl ((0 : Int32), σ)))))
  else (
    (gA σ h0 2 7).bind fun q2 =>
    (sI σ q2 0 x2 (-1 : Int32)).bind fun σ3 =>
    some (.inl (.inl ((x2 + (1 : Int32)), σ3))))
noncomputable def g_X2_reaches_24 (h0 : Nat) (x1 : Int32) (x2 : Int32)  (σ : mm_M) : Option (((Int32 × mm_M) ⊕ (Int32 × mm_M) ⊕ (Int32 × mm_M) ⊕ (Int32 × Int32 × mm_M) ⊕ (Int32 × Int32 × Int32 × mm_M) ⊕ (Int32 × Int32 × Int32 × Int32 × mm_M)) ⊕ (mm_M)) :=
  if (6 : Int32) ≤ x2 then (
    some (.inl (.inr (.inr (.inl ((0 : Int32), σ))))))
  else (
    (gA σ h0 2 0).bind fun q2 =>
    (aI σ q2 0 ((1200 : Int32) + x2)).bind fun v3 =>
    (ck σ h0 2).bind fun _ =>
    (f_X2_starts h0 v3 x1 σ).bind fun σ4 =>
    some (.inl (.inr (.inl ((x2 + (1 : Int32)), σ4)))))
noncomputable def g_X2_reaches_53 (h0 : Nat) (x1 : Int32) (x2 : Int32)  (σ : mm_M) : Option (((Int32 × mm_M) ⊕ (Int32 × mm_M) ⊕ (Int32 × mm_M) ⊕ (Int32 × Int32 × mm_M) ⊕ (Int32 × Int32 × Int32 × mm_M) ⊕ (Int32 × Int32 × Int32 × Int32 × mm_M)) ⊕ (mm_M)) :=
  (gA σ h0 2 0).bind fun q1 =>
  (aI σ q1 0 (1216 : Int32)).bind fun v2 =>
  if v2 ≤ x2 then (
    some (.inl (.inr (.inr (.inr (.inl ((1 : Int32), (0 : Int32), σ)))))))
  else (
    (gA σ h0 2 0).bind fun q4 =>
    (aI σ q4 0 ((0 : Int32) + x2)).bind fun v5 =>
    if v5 ≤ 0 then (
      (ck σ h0 2).bind fun _ =>
      (f_X2_starts h0 (-1 : Int32) x1 σ).bind fun σ7 =>
      some (.inl (.inr (.inr (.inl ((x2 + (1 : Int32)), σ7))))))
    else (
      (gA σ h0 2 0).bind fun q8 =>
      (aI σ q8 0 ((400 : Int32) + x2)).bind fun v9 =>
      if v9 = (1 : Int32) then (
        (ck σ h0 2).bind fun _ =>
        (f_X2_starts h0 x2 x1 σ).bind fun σ12 =>
        some (.inl (.inr (.inr (.inl ((x2 + (1 : Int32)), σ12))))))
      else (
        (ck σ h0 2).bind fun _ =>
        (f_X2_starts h0 (-1 : Int32) x1 σ).bind fun σ11 =>
        some (.inl (.inr (.inr (.inl ((x2 + (1 : Int32)), σ11))))))))
noncomputable def g_X2_reaches_110 (h0 : Nat) (x1 : Int32) (x2 : Int32) (x3 : Int32)  (σ : mm_M) : Option (((Int32 × mm_M) ⊕ (Int32 × mm_M) ⊕ (Int32 × mm_M) ⊕ (Int32 × Int32 × mm_M) ⊕ (Int32 × Int32 × Int32 × mm_M) ⊕ (Int32 × Int32 × Int32 × Int32 × mm_M)) ⊕ (mm_M)) :=
  if x2 = 0 then (
    some (.inr σ))
  else (
    some (.inl (.inr (.inr (.inr (.inr (.inl ((0 : Int32), x3, (0 : Int32), σ))))))))
noncomputable def g_X2_reaches_119 (h0 : Nat) (x1 : Int32) (x2 : Int32) (x3 : Int32) (x4 : Int32)  (σ : mm_M) : Option (((Int32 × mm_M) ⊕ (Int32 × mm_M) ⊕ (Int32 × mm_M) ⊕ (Int32 × Int32 × mm_M) ⊕ (Int32 × Int32 × Int32 × mm_M) ⊕ (Int32 × Int32 × Int32 × Int32 × mm_M)) ⊕ (mm_M)) :=
  (gA σ h0 2 0).bind fun q1 =>
  (aI σ q1 0 (1216 : Int32)).bind fun v2 =>
  if v2 ≤ x4 then (
    some (.inl (.inr (.inr (.inr (.inl (x2, (x3 + (1 : Int32)), σ)))))))
  else (
    some (.inl (.inr (.inr (.inr (.inr (.inr (x2, x3, x4, (1 : Int32), σ))))))))
noncomputable def g_X2_reaches_214 (h0 : Nat) (x1 : Int32) (x2 : Int32) (x3 : Int32) (x4 : Int32) (x5 : Int32) (t0 : Int32) (σ : mm_M) : Option (((Int32 × mm_M) ⊕ (Int32 × mm_M) ⊕ (Int32 × mm_M) ⊕ (Int32 × Int32 × mm_M) ⊕ (Int32 × Int32 × Int32 × mm_M) ⊕ (Int32 × Int32 × Int32 × Int32 × mm_M)) ⊕ (mm_M)) :=
  if t0 = (-1 : Int32) then (
    some (.inl (.inr (.inr (.inr (.inr (.inr (x2, x3, x4, (x5 + (1 : Int32)), σ))))))))
  else (
    if t0 = x1 then (
      some (.inl (.inr (.inr (.inr (.inr (.inr (x2, x3, x4, (x5 + (1 : Int32)), σ))))))))
    else (
      (gA σ h0 2 7).bind fun q3 =>
      (aI σ q3 0 t0).bind fun v4 =>
      if v4 = (-1 : Int32) then (
        (gA σ h0 2 7).bind fun q6 =>
        (sI σ q6 0 t0 (x3 + (1 : Int32))).bind fun σ7 =>
        some (.inl (.inr (.inr (.inr (.inr (.inr ((1 : Int32), x3, x4, (x5 + (1 : Int32)), σ7))))))))
      else (
        some (.inl (.inr (.inr (.inr (.inr (.inr (x2, x3, x4, (x5 + (1 : Int32)), σ))))))))))
noncomputable def g_X2_reaches_135 (h0 : Nat) (x1 : Int32) (x2 : Int32) (x3 : Int32) (x4 : Int32) (x5 : Int32)  (σ : mm_M) : Option (((Int32 × mm_M) ⊕ (Int32 × mm_M) ⊕ (Int32 × mm_M) ⊕ (Int32 × Int32 × mm_M) ⊕ (Int32 × Int32 × Int32 × mm_M) ⊕ (Int32 × Int32 × Int32 × Int32 × mm_M)) ⊕ (mm_M)) :=
  (gA σ h0 2 0).bind fun q1 =>
  (aI σ q1 0 ((200 : Int32) + x4)).bind fun v2 =>
  if v2 < x5 then (
    some (.inl (.inr (.inr (.inr (.inr (.inl (x2, x3, (x4 + (1 : Int32)), σ))))))))
  else (
    (gA σ h0 2 0).bind fun q4 =>
    (aI σ q4 0 ((0 : Int32) + x4)).bind fun v5 =>
    if v5 ≤ 0 then (
      some (.inl (.inr (.inr (.inr (.inr (.inl (x2, x3, (x4 + (1 : Int32)), σ))))))))
    else (
      (gA σ h0 2 7).bind fun q7 =>
      (aI σ q7 0 x4).bind fun v8 =>
      if v8 = x3 then (
        (gA σ h0 2 0).bind fun q10 =>
        (aI σ q10 0 (((800 : Int32) + x4) + x5)).bind fun v11 =>
        if v11 = (-1 : Int32) then (
          g_X2_reaches_214 h0 x1 x2 x3 x4 x5 (-1 : Int32) σ)
        else (
          (gA σ h0 2 0).bind fun q13 =>
          (aI σ q13 0 (((800 : Int32) + x4) + x5)).bind fun v14 =>
          (ck σ h0 2).bind fun _ =>
          (f_X2_objectOf h0 v14 σ).bind fun v15 =>
          g_X2_reaches_214 h0 x1 x2 x3 x4 x5 v15 σ))
      else (
        some (.inl (.inr (.inr (.inr (.inr (.inl (x2, x3, (x4 + (1 : Int32)), σ))))))))))
noncomputable def g_X2_reaches_0 (h0 : Nat) (x1 : Int32)   (σ : mm_M) : Option (((Int32 × mm_M) ⊕ (Int32 × mm_M) ⊕ (Int32 × mm_M) ⊕ (Int32 × Int32 × mm_M) ⊕ (Int32 × Int32 × Int32 × mm_M) ⊕ (Int32 × Int32 × Int32 × Int32 × mm_M)) ⊕ (mm_M)) :=
  some (.inl (.inl ((0 : Int32), σ)))
noncomputable def s_X2_reaches (h0 : Nat) (x1 : Int32) : (Int32 × mm_M) ⊕ (Int32 × mm_M) ⊕ (Int32 × mm_M) ⊕ (Int32 × Int32 × mm_M) ⊕ (Int32 × Int32 × Int32 × mm_M) ⊕ (Int32 × Int32 × Int32 × Int32 × mm_M) → Option (((Int32 × mm_M) ⊕ (Int32 × mm_M) ⊕ (Int32 × mm_M) ⊕ (Int32 × Int32 × mm_M) ⊕ (Int32 × Int32 × Int32 × mm_M) ⊕ (Int32 × Int32 × Int32 × Int32 × mm_M)) ⊕ (mm_M)) := fun s => match s with
  | (.inl s) => g_X2_reaches_2 h0 x1 s.1 s.2
  | (.inr (.inl s)) => g_X2_reaches_24 h0 x1 s.1 s.2
  | (.inr (.inr (.inl s))) => g_X2_reaches_53 h0 x1 s.1 s.2
  | (.inr (.inr (.inr (.inl s)))) => g_X2_reaches_110 h0 x1 s.1 s.2.1 s.2.2
  | (.inr (.inr (.inr (.inr (.inl s))))) => g_X2_reaches_119 h0 x1 s.1 s.2.1 s.2.2.1 s.2.2.2
  | (.inr (.inr (.inr (.inr (.inr s))))) => g_X2_reaches_135 h0 x1 s.1 s.2.1 s.2.2.1 s.2.2.2.1 s.2.2.2.2
noncomputable def f_X2_reaches (h0 : Nat) (x1 : Int32) (σ : mm_M) : Option (mm_M) := lgo (s_X2_reaches h0 x1) (g_X2_reaches_0 h0 x1 σ)
/-! IslandHeapModel.object(II)I -/
noncomputable def f_X2_object (h0 : Nat) (x1 : Int32) (x2 : Int32) (σ : mm_M) : Option (Int32 × mm_M) :=
  (ck σ h0 2).bind fun _ =>
  (f_X2_objectOf h0 x1 σ).bind fun v1 =>
  if v1 = (-1 : Int32) then (
    some ((-1000002 : Int32), σ))
  else (
    (f_X2_in x2 (0 : Int32) (7 : Int32) σ).bind fun v3 =>
    if v3 = 0 then (
      some ((-1000002 : Int32), σ))
    else (
      if x2 = (0 : Int32) then (
        some (v1, σ))
      else (
        if x2 = (1 : Int32) then (
          (gA σ h0 2 0).bind fun q12 =>
          (aI σ q12 0 ((0 : Int32) + v1)).bind fun v13 =>
          some (v13, σ))
        else (
          if x2 = (2 : Int32) then (
            (gA σ h0 2 0).bind fun q14 =>
            (aI σ q14 0 ((200 : Int32) + v1)).bind fun v15 =>
            some (v15, σ))
          else (
            if x2 = (3 : Int32) then (
              (ck σ h0 2).bind fun _ =>
              (f_X2_dataOf h0 v1 σ).bind fun v16 =>
              some (v16, σ))
            else (
              if x2 = (4 : Int32) then (
                (gA σ h0 2 0).bind fun q17 =>
                (aI σ q17 0 ((400 : Int32) + v1)).bind fun v18 =>
                some (v18, σ))
              else (
                if x2 = (5 : Int32) then (
                  (gA σ h0 2 0).bind fun q19 =>
                  (aI σ q19 0 ((600 : Int32) + v1)).bind fun v20 =>
                  some (v20, σ))
                else (
                  if x2 = (6 : Int32) then (
                    (ck σ h0 2).bind fun _ =>
                    (f_X2_referring h0 v1 σ).bind fun v21 =>
                    some (v21, σ))
                  else (
                    (ck σ h0 2).bind fun _ =>
                    (f_X2_reaches h0 (-1 : Int32) σ).bind fun σ22 =>
                    (gA σ22 h0 2 7).bind fun q23 =>
                    (aI σ22 q23 0 v1).bind fun v24 =>
                    if v24 = (-1 : Int32) then (
                      some ((0 : Int32), σ22))
                    else (
                      some ((1 : Int32), σ22)))))))))))
/-! IslandHeapModel.objectFrom(I)I -/
noncomputable def g_X2_objectFrom_2 (h0 : Nat) (x1 : Int32) (x2 : Int32)  (σ : mm_M) : Option (((Int32)) ⊕ (Int32)) :=
  (gA σ h0 2 0).bind fun q1 =>
  (aI σ q1 0 (1216 : Int32)).bind fun v2 =>
  if v2 ≤ x2 then (
    some (.inr (-1 : Int32)))
  else (
    (gA σ h0 2 0).bind fun q4 =>
    (aI σ q4 0 ((0 : Int32) + x2)).bind fun v5 =>
    if v5 ≤ 0 then (
      some (.inl (x2 + (1 : Int32))))
    else (
      some (.inr x2)))
noncomputable def g_X2_objectFrom_0 (h0 : Nat) (x1 : Int32)   (σ : mm_M) : Option (((Int32)) ⊕ (Int32)) :=
  some (.inl x1)
noncomputable def s_X2_objectFrom (h0 : Nat) (x1 : Int32) (σ : mm_M) : (Int32) → Option (((Int32)) ⊕ (Int32)) := fun s => g_X2_objectFrom_2 h0 x1 s σ
noncomputable def f_X2_objectFrom (h0 : Nat) (x1 : Int32) (σ : mm_M) : Option (Int32) := lgo (s_X2_objectFrom h0 x1 σ) (g_X2_objectFrom_0 h0 x1 σ)
/-! IslandHeapModel.next(I)I -/
noncomputable def f_X2_next (h0 : Nat) (x1 : Int32) (σ : mm_M) : Option (Int32) :=
  if x1 = (-1 : Int32) then (
    (ck σ h0 2).bind fun _ =>
    (f_X2_objectFrom h0 (0 : Int32) σ).bind fun v5 =>
    some v5)
  else (
    (ck σ h0 2).bind fun _ =>
    (f_X2_objectOf h0 x1 σ).bind fun v2 =>
    if v2 = (-1 : Int32) then (
      some (-1000002 : Int32))
    else (
      (ck σ h0 2).bind fun _ =>
      (f_X2_objectFrom h0 (v2 + (1 : Int32)) σ).bind fun v4 =>
      some v4))
/-! IslandHeapModel.isReference(I)Z -/
noncomputable def f_X2_isReference (h0 : Nat) (x1 : Int32) (σ : mm_M) : Option (Int32) :=
  if x1 = (-1 : Int32) then (
    some (1 : Int32))
  else (
    (ck σ h0 2).bind fun _ =>
    (f_X2_objectOf h0 x1 σ).bind fun v2 =>
    if v2 = (-1 : Int32) then (
      some (0 : Int32))
    else (
      some (1 : Int32)))
/-! IslandHeapModel.setField(III)I -/
noncomputable def f_X2_setField (h0 : Nat) (x1 : Int32) (x2 : Int32) (x3 : Int32) (σ : mm_M) : Option (Int32 × mm_M) :=
  (ck σ h0 2).bind fun _ =>
  (f_X2_objectOf h0 x1 σ).bind fun v1 =>
  if v1 = (-1 : Int32) then (
    some ((-1000002 : Int32), σ))
  else (
    (gA σ h0 2 0).bind fun q3 =>
    (aI σ q3 0 ((200 : Int32) + v1)).bind fun v4 =>
    (f_X2_in x2 (0 : Int32) (v4 - (1 : Int32)) σ).bind fun v5 =>
    if v5 = 0 then (
      some ((-1000002 : Int32), σ))
    else (
      (ck σ h0 2).bind fun _ =>
      (f_X2_isReference h0 x3 σ).bind fun v7 =>
      if v7 = 0 then (
        some ((-1000002 : Int32), σ))
      else (
        (gA σ h0 2 0).bind fun q9 =>
        (aI σ q9 0 ((((800 : Int32) + v1) + (1 : Int32)) + x2)).bind fun v10 =>
        (gA σ h0 2 0).bind fun q11 =>
        (sI σ q11 0 ((((800 : Int32) + v1) + (1 : Int32)) + x2) x3).bind fun σ12 =>
        some (v10, σ12))))
/-! IslandHeapModel.field(II)I -/
noncomputable def f_X2_field (h0 : Nat) (x1 : Int32) (x2 : Int32) (σ : mm_M) : Option (Int32) :=
  (ck σ h0 2).bind fun _ =>
  (f_X2_objectOf h0 x1 σ).bind fun v1 =>
  if v1 = (-1 : Int32) then (
    some (-1000002 : Int32))
  else (
    (gA σ h0 2 0).bind fun q3 =>
    (aI σ q3 0 ((200 : Int32) + v1)).bind fun v4 =>
    (f_X2_in x2 (0 : Int32) (v4 - (1 : Int32)) σ).bind fun v5 =>
    if v5 = 0 then (
      some (-1000002 : Int32))
    else (
      (gA σ h0 2 0).bind fun q7 =>
      (aI σ q7 0 ((((800 : Int32) + v1) + (1 : Int32)) + x2)).bind fun v8 =>
      some v8))
/-! IslandHeapModel.setData(III)I -/
noncomputable def f_X2_setData (h0 : Nat) (x1 : Int32) (x2 : Int32) (x3 : Int32) (σ : mm_M) : Option (Int32 × mm_M) :=
  (ck σ h0 2).bind fun _ =>
  (f_X2_objectOf h0 x1 σ).bind fun v1 =>
  if v1 = (-1 : Int32) then (
    some ((-1000002 : Int32), σ))
  else (
    (ck σ h0 2).bind fun _ =>
    (f_X2_dataOf h0 v1 σ).bind fun v3 =>
    (f_X2_in x2 (0 : Int32) (v3 - (1 : Int32)) σ).bind fun v4 =>
    if v4 = 0 then (
      some ((-1000002 : Int32), σ))
    else (
      (f_X2_in x3 (-1000000 : Int32) (1000000 : Int32) σ).bind fun v6 =>
      if v6 = 0 then (
        some ((-1000002 : Int32), σ))
      else (
        (gA σ h0 2 0).bind fun q8 =>
        (aI σ q8 0 ((200 : Int32) + v1)).bind fun v9 =>
        (gA σ h0 2 0).bind fun q10 =>
        (aI σ q10 0 (((((800 : Int32) + v1) + (1 : Int32)) + v9) + x2)).bind fun v11 =>
        (gA σ h0 2 0).bind fun q12 =>
        (sI σ q12 0 (((((800 : Int32) + v1) + (1 : Int32)) + v9) + x2) x3).bind fun σ13 =>
        some (v11, σ13))))
/-! IslandHeapModel.data(II)I -/
noncomputable def f_X2_data (h0 : Nat) (x1 : Int32) (x2 : Int32) (σ : mm_M) : Option (Int32) :=
  (ck σ h0 2).bind fun _ =>
  (f_X2_objectOf h0 x1 σ).bind fun v1 =>
  if v1 = (-1 : Int32) then (
    some (-1000002 : Int32))
  else (
    (ck σ h0 2).bind fun _ =>
    (f_X2_dataOf h0 v1 σ).bind fun v3 =>
    (f_X2_in x2 (0 : Int32) (v3 - (1 : Int32)) σ).bind fun v4 =>
    if v4 = 0 then (
      some (-1000002 : Int32))
    else (
      (gA σ h0 2 0).bind fun q6 =>
      (gA σ h0 2 0).bind fun q7 =>
      (aI σ q7 0 ((200 : Int32) + v1)).bind fun v8 =>
      (aI σ q6 0 (((((800 : Int32) + v1) + (1 : Int32)) + v8) + x2)).bind fun v9 =>
      some v9))
/-! IslandHeapModel.many(Z)I -/
noncomputable def g_X2_many_4 (h0 : Nat) (x1 : Int32) (x2 : Int32) (x3 : Int32)  (σ : mm_M) : Option (((Int32 × Int32)) ⊕ (Int32)) :=
  (gA σ h0 2 0).bind fun q1 =>
  (aI σ q1 0 (1216 : Int32)).bind fun v2 =>
  if v2 ≤ x3 then (
    some (.inr x2))
  else (
    (gA σ h0 2 0).bind fun q4 =>
    (aI σ q4 0 ((0 : Int32) + x3)).bind fun v5 =>
    if v5 ≤ 0 then (
      some (.inl ((x2 + (0 : Int32)), (x3 + (1 : Int32)))))
    else (
      if x1 = 0 then (
        some (.inl ((x2 + (1 : Int32)), (x3 + (1 : Int32)))))
      else (
        (gA σ h0 2 0).bind fun q8 =>
        (aI σ q8 0 ((400 : Int32) + x3)).bind fun v9 =>
        if v9 = (1 : Int32) then (
          some (.inl ((x2 + (1 : Int32)), (x3 + (1 : Int32)))))
        else (
          some (.inl ((x2 + (0 : Int32)), (x3 + (1 : Int32))))))))
noncomputable def g_X2_many_0 (h0 : Nat) (x1 : Int32)   (σ : mm_M) : Option (((Int32 × Int32)) ⊕ (Int32)) :=
  some (.inl ((0 : Int32), (0 : Int32)))
noncomputable def s_X2_many (h0 : Nat) (x1 : Int32) (σ : mm_M) : (Int32 × Int32) → Option (((Int32 × Int32)) ⊕ (Int32)) := fun s => g_X2_many_4 h0 x1 s.1 s.2 σ
noncomputable def f_X2_many (h0 : Nat) (x1 : Int32) (σ : mm_M) : Option (Int32) := lgo (s_X2_many h0 x1 σ) (g_X2_many_0 h0 x1 σ)
/-! IslandHeapModel.pin(IZ)I -/
noncomputable def g_X2_pin_33 (h0 : Nat) (x1 : Int32) (x2 : Int32) (x3 : Int32) (t0 : Int32) (t1 : Int32) (σ : mm_M) : Option (Int32 × mm_M) :=
  if t0 = t1 then (
    some ((-1000003 : Int32), σ))
  else (
    (gA σ h0 2 0).bind fun q2 =>
    if x2 = 0 then (
      (sI σ q2 0 ((400 : Int32) + x3) (0 : Int32)).bind fun σ4 =>
      (ck σ4 h0 2).bind fun _ =>
      (f_X2_many h0 (1 : Int32) σ4).bind fun v5 =>
      some (v5, σ4))
    else (
      (sI σ q2 0 ((400 : Int32) + x3) (1 : Int32)).bind fun σ6 =>
      (ck σ6 h0 2).bind fun _ =>
      (f_X2_many h0 (1 : Int32) σ6).bind fun v7 =>
      some (v7, σ6)))
noncomputable def f_X2_pin (h0 : Nat) (x1 : Int32) (x2 : Int32) (σ : mm_M) : Option (Int32 × mm_M) :=
  (ck σ h0 2).bind fun _ =>
  (f_X2_objectOf h0 x1 σ).bind fun v1 =>
  if v1 = (-1 : Int32) then (
    some ((-1000002 : Int32), σ))
  else (
    (gA σ h0 2 0).bind fun q3 =>
    (aI σ q3 0 ((400 : Int32) + v1)).bind fun v4 =>
    if x2 = 0 then (
      g_X2_pin_33 h0 x1 x2 v1 v4 (0 : Int32) σ)
    else (
      g_X2_pin_33 h0 x1 x2 v1 v4 (1 : Int32) σ))
/-! IslandHeapModel.setsSlot(II)I -/
def f_X2_setsSlot (h0 : Nat) (x1 : Int32) (x2 : Int32) (σ : mm_M) : Option (Int32 × mm_M) :=
  (gA σ h0 2 0).bind fun q1 =>
  (aI σ q1 0 x1).bind fun v2 =>
  (gA σ h0 2 0).bind fun q3 =>
  (sI σ q3 0 x1 x2).bind fun σ4 =>
  some (v2, σ4)
/-! IslandHeapModel.setRoot(II)I -/
noncomputable def f_X2_setRoot (h0 : Nat) (x1 : Int32) (x2 : Int32) (σ : mm_M) : Option (Int32 × mm_M) :=
  (f_X2_in x1 (0 : Int32) (5 : Int32) σ).bind fun v1 =>
  if v1 = 0 then (
    some ((-1000002 : Int32), σ))
  else (
    (ck σ h0 2).bind fun _ =>
    (f_X2_isReference h0 x2 σ).bind fun v3 =>
    if v3 = 0 then (
      some ((-1000002 : Int32), σ))
    else (
      (ck σ h0 2).bind fun _ =>
      b2 (f_X2_setsSlot h0 ((1200 : Int32) + x1) x2 σ) fun v5 σ6 =>
      some (v5, σ6)))
/-! IslandHeapModel.root(I)I -/
def f_X2_root (h0 : Nat) (x1 : Int32) (σ : mm_M) : Option (Int32) :=
  (f_X2_in x1 (0 : Int32) (5 : Int32) σ).bind fun v1 =>
  if v1 = 0 then (
    some (-1000002 : Int32))
  else (
    (gA σ h0 2 0).bind fun q3 =>
    (aI σ q3 0 ((1200 : Int32) + x1)).bind fun v4 =>
    some v4)
/-! IslandHeapModel.setWeak(II)I -/
noncomputable def f_X2_setWeak (h0 : Nat) (x1 : Int32) (x2 : Int32) (σ : mm_M) : Option (Int32 × mm_M) :=
  (f_X2_in x1 (0 : Int32) (3 : Int32) σ).bind fun v1 =>
  if v1 = 0 then (
    some ((-1000002 : Int32), σ))
  else (
    (ck σ h0 2).bind fun _ =>
    (f_X2_isReference h0 x2 σ).bind fun v3 =>
    if v3 = 0 then (
      some ((-1000002 : Int32), σ))
    else (
      (ck σ h0 2).bind fun _ =>
      b2 (f_X2_setsSlot h0 ((1206 : Int32) + x1) x2 σ) fun v5 σ6 =>
      some (v5, σ6)))
/-! IslandHeapModel.weak(I)I -/
def f_X2_weak (h0 : Nat) (x1 : Int32) (σ : mm_M) : Option (Int32) :=
  (f_X2_in x1 (0 : Int32) (3 : Int32) σ).bind fun v1 =>
  if v1 = 0 then (
    some (-1000002 : Int32))
  else (
    (gA σ h0 2 0).bind fun q3 =>
    (aI σ q3 0 ((1206 : Int32) + x1)).bind fun v4 =>
    some v4)
/-! IslandHeapModel.occupied()I -/
noncomputable def g_X2_occupied_4 (h0 : Nat) (x1 : Int32) (x2 : Int32)  (σ : mm_M) : Option (((Int32 × Int32)) ⊕ (Int32)) :=
  (gA σ h0 2 0).bind fun q1 =>
  (aI σ q1 0 (1216 : Int32)).bind fun v2 =>
  if v2 ≤ x2 then (
    some (.inr x1))
  else (
    (gA σ h0 2 0).bind fun q4 =>
    (aI σ q4 0 ((0 : Int32) + x2)).bind fun v5 =>
    some (.inl ((x1 + v5), (x2 + (1 : Int32)))))
noncomputable def g_X2_occupied_0 (h0 : Nat)   (σ : mm_M) : Option (((Int32 × Int32)) ⊕ (Int32)) :=
  some (.inl ((0 : Int32), (0 : Int32)))
noncomputable def s_X2_occupied (h0 : Nat) (σ : mm_M) : (Int32 × Int32) → Option (((Int32 × Int32)) ⊕ (Int32)) := fun s => g_X2_occupied_4 h0 s.1 s.2 σ
noncomputable def f_X2_occupied (h0 : Nat) (σ : mm_M) : Option (Int32) := lgo (s_X2_occupied h0 σ) (g_X2_occupied_0 h0 σ)
/-! IslandHeapModel.reach(I)V -/
noncomputable def g_X2_reach_14 (h0 : Nat) (x1 : Int32)  (t0 : Int32) (σ : mm_M) : Option (mm_M) :=
  if t0 = (-1 : Int32) then (
    some σ)
  else (
    (gA σ h0 2 8).bind fun q2 =>
    (aI σ q2 1 t0).bind fun v3 =>
    if v3 = 0 then (
      (gA σ h0 2 8).bind fun q5 =>
      (sI σ q5 1 t0 (1 : Int32)).bind fun σ6 =>
      (gI σ6 h0 2 10).bind fun v7 =>
      (gA σ6 h0 2 0).bind fun q8 =>
      (aI σ6 q8 0 (1217 : Int32)).bind fun v9 =>
      if v7 = v9 then (
        (pF σ6 h0 2 12 (vI (1 : Int32))).bind fun σ23 =>
        some σ23)
      else (
        (gA σ6 h0 2 9).bind fun q11 =>
        (gI σ6 h0 2 10).bind fun v12 =>
        (sI σ6 q11 0 v12 t0).bind fun σ13 =>
        (gI σ13 h0 2 10).bind fun v14 =>
        (pF σ13 h0 2 10 (vI (v14 + (1 : Int32)))).bind fun σ15 =>
        (gI σ15 h0 2 10).bind fun v16 =>
        (gI σ15 h0 2 11).bind fun v17 =>
        if v16 ≤ v17 then (
          (gI σ15 h0 2 11).bind fun v19 =>
          (pF σ15 h0 2 11 (vI v19)).bind fun σ20 =>
          some σ20)
        else (
          (gI σ15 h0 2 10).bind fun v21 =>
          (pF σ15 h0 2 11 (vI v21)).bind fun σ22 =>
          some σ22)))
    else (
      some σ))
noncomputable def f_X2_reach (h0 : Nat) (x1 : Int32) (σ : mm_M) : Option (mm_M) :=
  if x1 = (-1 : Int32) then (
    g_X2_reach_14 h0 x1 (-1 : Int32) σ)
  else (
    (ck σ h0 2).bind fun _ =>
    (f_X2_objectOf h0 x1 σ).bind fun v2 =>
    g_X2_reach_14 h0 x1 v2 σ)
/-! IslandHeapModel.drains()V -/
noncomputable def g_X2_drains_0 (h0 : Nat)   (σ : mm_M) : Option (((mm_M) ⊕ (Int32 × Int32 × mm_M)) ⊕ (mm_M)) :=
  (gI σ h0 2 10).bind fun v1 =>
  if v1 ≤ 0 then (
    some (.inr σ))
  else (
    (gI σ h0 2 10).bind fun v3 =>
    (pF σ h0 2 10 (vI (v3 - (1 : Int32)))).bind fun σ4 =>
    (gA σ4 h0 2 9).bind fun q5 =>
    (gI σ4 h0 2 10).bind fun v6 =>
    (aI σ4 q5 0 v6).bind fun v7 =>
    some (.inl (.inr (v7, (1 : Int32), σ4))))
noncomputable def g_X2_drains_29 (h0 : Nat) (x1 : Int32) (x2 : Int32)  (σ : mm_M) : Option (((mm_M) ⊕ (Int32 × Int32 × mm_M)) ⊕ (mm_M)) :=
  (gA σ h0 2 0).bind fun q1 =>
  (aI σ q1 0 ((200 : Int32) + x1)).bind fun v2 =>
  if v2 < x2 then (
    some (.inl (.inl σ)))
  else (
    (gA σ h0 2 0).bind fun q4 =>
    (aI σ q4 0 (((800 : Int32) + x1) + x2)).bind fun v5 =>
    (ck σ h0 2).bind fun _ =>
    (f_X2_reach h0 v5 σ).bind fun σ6 =>
    some (.inl (.inr (x1, (x2 + (1 : Int32)), σ6))))
noncomputable def s_X2_drains (h0 : Nat) : (mm_M) ⊕ (Int32 × Int32 × mm_M) → Option (((mm_M) ⊕ (Int32 × Int32 × mm_M)) ⊕ (mm_M)) := fun s => match s with
  | (.inl s) => g_X2_drains_0 h0 s
  | (.inr s) => g_X2_drains_29 h0 s.1 s.2.1 s.2.2
noncomputable def f_X2_drains (h0 : Nat) (σ : mm_M) : Option (mm_M) := lgo (s_X2_drains h0) (some (.inl (.inl σ)))
/-! IslandHeapModel.scans()V -/
noncomputable def g_X2_scans_2 (h0 : Nat) (x1 : Int32)  (σ : mm_M) : Option (((Int32 × mm_M) ⊕ (Int32 × Int32 × mm_M)) ⊕ (mm_M)) :=
  (gA σ h0 2 0).bind fun q1 =>
  (aI σ q1 0 (1216 : Int32)).bind fun v2 =>
  if v2 ≤ x1 then (
    some (.inr σ))
  else (
    some (.inl (.inr (x1, (1 : Int32), σ))))
noncomputable def g_X2_scans_16 (h0 : Nat) (x1 : Int32) (x2 : Int32)  (σ : mm_M) : Option (((Int32 × mm_M) ⊕ (Int32 × Int32 × mm_M)) ⊕ (mm_M)) :=
  (gA σ h0 2 0).bind fun q1 =>
  (aI σ q1 0 ((200 : Int32) + x1)).bind fun v2 =>
  if v2 < x2 then (
    some (.inl (.inl ((x1 + (1 : Int32)), σ))))
  else (
    (gA σ h0 2 0).bind fun q4 =>
    (aI σ q4 0 ((0 : Int32) + x1)).bind fun v5 =>
    if v5 ≤ 0 then (
      some (.inl (.inl ((x1 + (1 : Int32)), σ))))
    else (
      (gA σ h0 2 8).bind fun q7 =>
      (aI σ q7 1 x1).bind fun v8 =>
      if v8 = 0 then (
        some (.inl (.inl ((x1 + (1 : Int32)), σ))))
      else (
        (gA σ h0 2 0).bind fun q10 =>
        (aI σ q10 0 (((800 : Int32) + x1) + x2)).bind fun v11 =>
        (ck σ h0 2).bind fun _ =>
        (f_X2_reach h0 v11 σ).bind fun σ12 =>
        (ck σ12 h0 2).bind fun _ =>
        (f_X2_drains h0 σ12).bind fun σ13 =>
        some (.inl (.inr (x1, (x2 + (1 : Int32)), σ13))))))
noncomputable def g_X2_scans_0 (h0 : Nat)   (σ : mm_M) : Option (((Int32 × mm_M) ⊕ (Int32 × Int32 × mm_M)) ⊕ (mm_M)) :=
  some (.inl (.inl ((0 : Int32), σ)))
noncomputable def s_X2_scans (h0 : Nat) : (Int32 × mm_M) ⊕ (Int32 × Int32 × mm_M) → Option (((Int32 × mm_M) ⊕ (Int32 × Int32 × mm_M)) ⊕ (mm_M)) := fun s => match s with
  | (.inl s) => g_X2_scans_2 h0 s.1 s.2
  | (.inr s) => g_X2_scans_16 h0 s.1 s.2.1 s.2.2
noncomputable def f_X2_scans (h0 : Nat) (σ : mm_M) : Option (mm_M) := lgo (s_X2_scans h0) (g_X2_scans_0 h0 σ)
/-! IslandHeapModel.marks()I -/
noncomputable def g_X2_marks_2 (h0 : Nat) (x1 : Int32)  (σ : mm_M) : Option (((Int32 × mm_M) ⊕ (Int32 × mm_M) ⊕ (Int32 × mm_M) ⊕ (Int32 × mm_M)) ⊕ (Int32 × mm_M)) :=
  if (200 : Int32) ≤ x1 then (
    (pF σ h0 2 10 (vI (0 : Int32))).bind fun σ2 =>
    (pF σ2 h0 2 11 (vI (0 : Int32))).bind fun σ3 =>
    (pF σ3 h0 2 12 (vI (0 : Int32))).bind fun σ4 =>
    some (.inl (.inr (.inl ((0 : Int32), σ4)))))
  else (
    (gA σ h0 2 8).bind fun q5 =>
    (sI σ q5 1 x1 (0 : Int32)).bind fun σ6 =>
    some (.inl (.inl ((x1 + (1 : Int32)), σ6))))
noncomputable def g_X2_marks_39 (h0 : Nat) (x1 : Int32)  (σ : mm_M) : Option (((Int32 × mm_M) ⊕ (Int32 × mm_M) ⊕ (Int32 × mm_M) ⊕ (Int32 × mm_M)) ⊕ (Int32 × mm_M)) :=
  if (6 : Int32) ≤ x1 then (
    some (.inl (.inr (.inr (.inl ((0 : Int32), σ))))))
  else (
    (gA σ h0 2 0).bind fun q2 =>
    (aI σ q2 0 ((1200 : Int32) + x1)).bind fun v3 =>
    (ck σ h0 2).bind fun _ =>
    (f_X2_reach h0 v3 σ).bind fun σ4 =>
    (ck σ4 h0 2).bind fun _ =>
    (f_X2_drains h0 σ4).bind fun σ5 =>
    some (.inl (.inr (.inl ((x1 + (1 : Int32)), σ5)))))
noncomputable def g_X2_marks_71 (h0 : Nat) (x1 : Int32)  (σ : mm_M) : Option (((Int32 × mm_M) ⊕ (Int32 × mm_M) ⊕ (Int32 × mm_M) ⊕ (Int32 × mm_M)) ⊕ (Int32 × mm_M)) :=
  (gA σ h0 2 0).bind fun q1 =>
  (aI σ q1 0 (1216 : Int32)).bind fun v2 =>
  if v2 ≤ x1 then (
    some (.inl (.inr (.inr (.inr ((0 : Int32), σ))))))
  else (
    (gA σ h0 2 0).bind fun q4 =>
    (aI σ q4 0 ((0 : Int32) + x1)).bind fun v5 =>
    if v5 ≤ 0 then (
      (ck σ h0 2).bind fun _ =>
      (f_X2_reach h0 (-1 : Int32) σ).bind fun σ7 =>
      (ck σ7 h0 2).bind fun _ =>
      (f_X2_drains h0 σ7).bind fun σ8 =>
      some (.inl (.inr (.inr (.inl ((x1 + (1 : Int32)), σ8))))))
    else (
      (gA σ h0 2 0).bind fun q9 =>
      (aI σ q9 0 ((400 : Int32) + x1)).bind fun v10 =>
      if v10 = (1 : Int32) then (
        (ck σ h0 2).bind fun _ =>
        (f_X2_reach h0 x1 σ).bind fun σ14 =>
        (ck σ14 h0 2).bind fun _ =>
        (f_X2_drains h0 σ14).bind fun σ15 =>
        some (.inl (.inr (.inr (.inl ((x1 + (1 : Int32)), σ15))))))
      else (
        (ck σ h0 2).bind fun _ =>
        (f_X2_reach h0 (-1 : Int32) σ).bind fun σ12 =>
        (ck σ12 h0 2).bind fun _ =>
        (f_X2_drains h0 σ12).bind fun σ13 =>
        some (.inl (.inr (.inr (.inl ((x1 + (1 : Int32)), σ13))))))))
noncomputable def g_X2_marks_129 (h0 : Nat) (x1 : Int32)  (σ : mm_M) : Option (((Int32 × mm_M) ⊕ (Int32 × mm_M) ⊕ (Int32 × mm_M) ⊕ (Int32 × mm_M)) ⊕ (Int32 × mm_M)) :=
  (gI σ h0 2 12).bind fun v1 =>
  if v1 = 0 then (
    some (.inr (x1, σ)))
  else (
    (pF σ h0 2 12 (vI (0 : Int32))).bind fun σ3 =>
    (ck σ3 h0 2).bind fun _ =>
    (f_X2_scans h0 σ3).bind fun σ4 =>
    some (.inl (.inr (.inr (.inr ((x1 + (1 : Int32)), σ4))))))
noncomputable def g_X2_marks_0 (h0 : Nat)   (σ : mm_M) : Option (((Int32 × mm_M) ⊕ (Int32 × mm_M) ⊕ (Int32 × mm_M) ⊕ (Int32 × mm_M)) ⊕ (Int32 × mm_M)) :=
  some (.inl (.inl ((0 : Int32), σ)))
noncomputable def s_X2_marks (h0 : Nat) : (Int32 × mm_M) ⊕ (Int32 × mm_M) ⊕ (Int32 × mm_M) ⊕ (Int32 × mm_M) → Option (((Int32 × mm_M) ⊕ (Int32 × mm_M) ⊕ (Int32 × mm_M) ⊕ (Int32 × mm_M)) ⊕ (Int32 × mm_M)) := fun s => match s with
  | (.inl s) => g_X2_marks_2 h0 s.1 s.2
  | (.inr (.inl s)) => g_X2_marks_39 h0 s.1 s.2
  | (.inr (.inr (.inl s))) => g_X2_marks_71 h0 s.1 s.2
  | (.inr (.inr (.inr s))) => g_X2_marks_129 h0 s.1 s.2
noncomputable def f_X2_marks (h0 : Nat) (σ : mm_M) : Option (Int32 × mm_M) := lgo (s_X2_marks h0) (g_X2_marks_0 h0 σ)
/-! IslandHeapModel.gone(I)I -/
def f_X2_gone (h0 : Nat) (x1 : Int32) (σ : mm_M) : Option (Int32) :=
  if x1 = (-1 : Int32) then (
    some (-1 : Int32))
  else (
    (gA σ h0 2 0).bind fun q2 =>
    (aI σ q2 0 ((1000 : Int32) + x1)).bind fun v3 =>
    some v3)
/-! IslandHeapModel.rebuilds()V -/
noncomputable def g_X2_rebuilds_2 (h0 : Nat) (x1 : Int32)  (σ : mm_M) : Option (((Int32 × mm_M) ⊕ (Int32 × mm_M) ⊕ (Int32 × Int32 × Int32 × mm_M) ⊕ (Int32 × mm_M)) ⊕ (mm_M)) :=
  if (1000 : Int32) ≤ x1 then (
    some (.inl (.inr (.inl ((0 : Int32), σ)))))
  else (
    (gA σ h0 2 0).bind fun q2 =>
    (sI σ q2 0 x1 (0 : Int32)).bind fun σ3 =>
    some (.inl (.inl ((x1 + (1 : Int32)), σ3))))
noncomputable def g_X2_rebuilds_24 (h0 : Nat) (x1 : Int32)  (σ : mm_M) : Option (((Int32 × mm_M) ⊕ (Int32 × mm_M) ⊕ (Int32 × Int32 × Int32 × mm_M) ⊕ (Int32 × mm_M)) ⊕ (mm_M)) :=
  (gA σ h0 2 0).bind fun q1 =>
  (aI σ q1 0 (1216 : Int32)).bind fun v2 =>
  if v2 ≤ x1 then (
    some (.inl (.inr (.inr (.inr ((0 : Int32), σ))))))
  else (
    (gA σ h0 2 1).bind fun q4 =>
    (aI σ q4 0 ((0 : Int32) + x1)).bind fun v5 =>
    if v5 ≤ 0 then (
      some (.inl (.inr (.inl ((x1 + (1 : Int32)), σ)))))
    else (
      (gA σ h0 2 8).bind fun q7 =>
      (aI σ q7 1 x1).bind fun v8 =>
      if v8 = 0 then (
        some (.inl (.inr (.inl ((x1 + (1 : Int32)), σ)))))
      else (
        (gA σ h0 2 0).bind fun q10 =>
        (aI σ q10 0 ((1000 : Int32) + x1)).bind fun v11 =>
        (gA σ h0 2 0).bind fun q12 =>
        (gA σ h0 2 1).bind fun q13 =>
        (aI σ q13 0 ((0 : Int32) + x1)).bind fun v14 =>
        (sI σ q12 0 ((0 : Int32) + v11) v14).bind fun σ15 =>
        (gA σ15 h0 2 0).bind fun q16 =>
        (gA σ15 h0 2 1).bind fun q17 =>
        (aI σ15 q17 0 ((200 : Int32) + x1)).bind fun v18 =>
        (sI σ15 q16 0 ((200 : Int32) + v11) v18).bind fun σ19 =>
        (gA σ19 h0 2 0).bind fun q20 =>
        (gA σ19 h0 2 1).bind fun q21 =>
        (aI σ19 q21 0 ((400 : Int32) + x1)).bind fun v22 =>
        (sI σ19 q20 0 ((400 : Int32) + v11) v22).bind fun σ23 =>
        (gA σ23 h0 2 0).bind fun q24 =>
        (gA σ23 h0 2 1).bind fun q25 =>
        (aI σ23 q25 0 ((600 : Int32) + x1)).bind fun v26 =>
        (sI σ23 q24 0 ((600 : Int32) + v11) (v26 + (1 : Int32))).bind fun σ27 =>
        some (.inl (.inr (.inr (.inl (x1, v11, (1 : Int32), σ27))))))))
noncomputable def g_X2_rebuilds_147 (h0 : Nat) (x1 : Int32) (x2 : Int32) (x3 : Int32)  (σ : mm_M) : Option (((Int32 × mm_M) ⊕ (Int32 × mm_M) ⊕ (Int32 × Int32 × Int32 × mm_M) ⊕ (Int32 × mm_M)) ⊕ (mm_M)) :=
  (gA σ h0 2 1).bind fun q1 =>
  (aI σ q1 0 ((0 : Int32) + x1)).bind fun v2 =>
  if v2 ≤ x3 then (
    some (.inl (.inr (.inl ((x1 + (1 : Int32)), σ)))))
  else (
    (gA σ h0 2 1).bind fun q4 =>
    (aI σ q4 0 (((800 : Int32) + x1) + x3)).bind fun v5 =>
    (gA σ h0 2 0).bind fun q6 =>
    (gA σ h0 2 1).bind fun q7 =>
    (aI σ q7 0 ((200 : Int32) + x1)).bind fun v8 =>
    if v8 < x3 then (
      (sI σ q6 0 (((800 : Int32) + x2) + x3) v5).bind fun σ10 =>
      some (.inl (.inr (.inr (.inl (x1, x2, (x3 + (1 : Int32)), σ10))))))
    else (
      (ck σ h0 2).bind fun _ =>
      (f_X2_gone h0 v5 σ).bind fun v11 =>
      (sI σ q6 0 (((800 : Int32) + x2) + x3) v11).bind fun σ12 =>
      some (.inl (.inr (.inr (.inl (x1, x2, (x3 + (1 : Int32)), σ12)))))))
noncomputable def g_X2_rebuilds_224 (h0 : Nat) (x1 : Int32)  (σ : mm_M) : Option (((Int32 × mm_M) ⊕ (Int32 × mm_M) ⊕ (Int32 × Int32 × Int32 × mm_M) ⊕ (Int32 × mm_M)) ⊕ (mm_M)) :=
  if (10 : Int32) ≤ x1 then (
    some (.inr σ))
  else (
    (gA σ h0 2 0).bind fun q2 =>
    (gA σ h0 2 1).bind fun q3 =>
    (aI σ q3 0 ((1200 : Int32) + x1)).bind fun v4 =>
    (ck σ h0 2).bind fun _ =>
    (f_X2_gone h0 v4 σ).bind fun v5 =>
    (sI σ q2 0 ((1200 : Int32) + x1) v5).bind fun σ6 =>
    some (.inl (.inr (.inr (.inr ((x1 + (1 : Int32)), σ6))))))
noncomputable def g_X2_rebuilds_0 (h0 : Nat)   (σ : mm_M) : Option (((Int32 × mm_M) ⊕ (Int32 × mm_M) ⊕ (Int32 × Int32 × Int32 × mm_M) ⊕ (Int32 × mm_M)) ⊕ (mm_M)) :=
  some (.inl (.inl ((0 : Int32), σ)))
noncomputable def s_X2_rebuilds (h0 : Nat) : (Int32 × mm_M) ⊕ (Int32 × mm_M) ⊕ (Int32 × Int32 × Int32 × mm_M) ⊕ (Int32 × mm_M) → Option (((Int32 × mm_M) ⊕ (Int32 × mm_M) ⊕ (Int32 × Int32 × Int32 × mm_M) ⊕ (Int32 × mm_M)) ⊕ (mm_M)) := fun s => match s with
  | (.inl s) => g_X2_rebuilds_2 h0 s.1 s.2
  | (.inr (.inl s)) => g_X2_rebuilds_24 h0 s.1 s.2
  | (.inr (.inr (.inl s))) => g_X2_rebuilds_147 h0 s.1 s.2.1 s.2.2.1 s.2.2.2
  | (.inr (.inr (.inr s))) => g_X2_rebuilds_224 h0 s.1 s.2
noncomputable def f_X2_rebuilds (h0 : Nat) (σ : mm_M) : Option (mm_M) := lgo (s_X2_rebuilds h0) (g_X2_rebuilds_0 h0 σ)
/-! IslandHeapModel.collect()I -/
noncomputable def g_X2_collect_12 (h0 : Nat) (x1 : Int32) (x2 : Int32) (x3 : Int32)  (σ : mm_M) : Option (((Int32 × Int32 × Int32 × mm_M) ⊕ (Int32 × Int32 × Int32 × mm_M) ⊕ (Int32 × Int32 × Int32 × Int32 × Int32 × Int32 × Int32 × Int32 × mm_M) ⊕ (Int32 × Int32 × Int32 × Int32 × Int32 × Int32 × Int32 × Int32 × Int32 × mm_M)) ⊕ (Int32 × mm_M)) :=
  if (1222 : Int32) ≤ x3 then (
    some (.inl (.inr (.inl (x1, x2, (0 : Int32), σ)))))
  else (
    (gA σ h0 2 1).bind fun q2 =>
    (gA σ h0 2 0).bind fun q3 =>
    (aI σ q3 0 x3).bind fun v4 =>
    (sI σ q2 0 x3 v4).bind fun σ5 =>
    some (.inl (.inl (x1, x2, (x3 + (1 : Int32)), σ5))))
noncomputable def g_X2_collect_39 (h0 : Nat) (x1 : Int32) (x2 : Int32) (x3 : Int32)  (σ : mm_M) : Option (((Int32 × Int32 × Int32 × mm_M) ⊕ (Int32 × Int32 × Int32 × mm_M) ⊕ (Int32 × Int32 × Int32 × Int32 × Int32 × Int32 × Int32 × Int32 × mm_M) ⊕ (Int32 × Int32 × Int32 × Int32 × Int32 × Int32 × Int32 × Int32 × Int32 × mm_M)) ⊕ (Int32 × mm_M)) :=
  if (200 : Int32) ≤ x3 then (
    some (.inl (.inr (.inr (.inl (x1, x2, (0 : Int32), (0 : Int32), (0 : Int32), (0 : Int32), (0 : Int32), (0 : Int32), σ))))))
  else (
    (gA σ h0 2 0).bind fun q2 =>
    (sI σ q2 0 ((1000 : Int32) + x3) (-1 : Int32)).bind fun σ3 =>
    some (.inl (.inr (.inl (x1, x2, (x3 + (1 : Int32)), σ3)))))
noncomputable def g_X2_collect_80 (h0 : Nat) (x1 : Int32) (x2 : Int32) (x3 : Int32) (x4 : Int32) (x5 : Int32) (x6 : Int32) (x7 : Int32) (x8 : Int32)  (σ : mm_M) : Option (((Int32 × Int32 × Int32 × mm_M) ⊕ (Int32 × Int32 × Int32 × mm_M) ⊕ (Int32 × Int32 × Int32 × Int32 × Int32 × Int32 × Int32 × Int32 × mm_M) ⊕ (Int32 × Int32 × Int32 × Int32 × Int32 × Int32 × Int32 × Int32 × Int32 × mm_M)) ⊕ (Int32 × mm_M)) :=
  (gA σ h0 2 0).bind fun q1 =>
  (aI σ q1 0 (1216 : Int32)).bind fun v2 =>
  if v2 ≤ x8 then (
    (ck σ h0 2).bind fun _ =>
    (f_X2_rebuilds h0 σ).bind fun σ4 =>
    (gA σ4 h0 2 0).bind fun q5 =>
    (sI σ4 q5 0 (1210 : Int32) x4).bind fun σ6 =>
    (gA σ6 h0 2 0).bind fun q7 =>
    (sI σ6 q7 0 (1211 : Int32) x5).bind fun σ8 =>
    (gA σ8 h0 2 0).bind fun q9 =>
    (sI σ8 q9 0 (1212 : Int32) x2).bind fun σ10 =>
    (gA σ10 h0 2 0).bind fun q11 =>
    (gI σ10 h0 2 11).bind fun v12 =>
    (sI σ10 q11 0 (1213 : Int32) v12).bind fun σ13 =>
    (gA σ13 h0 2 0).bind fun q14 =>
    (sI σ13 q14 0 (1214 : Int32) x6).bind fun σ15 =>
    (gA σ15 h0 2 0).bind fun q16 =>
    (sI σ15 q16 0 (1215 : Int32) x7).bind fun σ17 =>
    (gA σ17 h0 2 0).bind fun q18 =>
    (sI σ17 q18 0 (1221 : Int32) (1 : Int32)).bind fun σ19 =>
    (gA σ19 h0 2 0).bind fun q20 =>
    (aI σ19 q20 0 (1219 : Int32)).bind fun v21 =>
    (sI σ19 q20 0 (1219 : Int32) (v21 + (1 : Int32))).bind fun σ22 =>
    (gA σ22 h0 2 0).bind fun q23 =>
    (aI σ22 q23 0 (1220 : Int32)).bind fun v24 =>
    (sI σ22 q23 0 (1220 : Int32) (v24 + (x1 - x5))).bind fun σ25 =>
    some (.inr ((x1 - x5), σ25)))
  else (
    (gA σ h0 2 1).bind fun q26 =>
    (aI σ q26 0 ((0 : Int32) + x8)).bind fun v27 =>
    if v27 ≤ 0 then (
      some (.inl (.inr (.inr (.inl (x1, x2, x3, x4, x5, x6, x7, (x8 + (1 : Int32)), σ))))))
    else (
      (gA σ h0 2 8).bind fun q29 =>
      (aI σ q29 1 x8).bind fun v30 =>
      if v30 = 0 then (
        some (.inl (.inr (.inr (.inl (x1, x2, x3, x4, x5, x6, x7, (x8 + (1 : Int32)), σ))))))
      else (
        (gA σ h0 2 1).bind fun q32 =>
        (aI σ q32 0 ((400 : Int32) + x8)).bind fun v33 =>
        if v33 = (1 : Int32) then (
          some (.inl (.inr (.inr (.inr (x1, x2, x4, x5, x6, x7, x8, x8, (0 : Int32), σ))))))
        else (
          some (.inl (.inr (.inr (.inr (x1, x2, x4, x5, x6, x7, x8, x3, (0 : Int32), σ)))))))))
noncomputable def g_X2_collect_224 (h0 : Nat) (x1 : Int32) (x2 : Int32) (x3 : Int32) (x4 : Int32) (x5 : Int32) (x7 : Int32) (x8 : Int32) (x9 : Int32) (t0 : Int32) (t1 : Int32) (σ : mm_M) : Option (((Int32 × Int32 × Int32 × mm_M) ⊕ (Int32 × Int32 × Int32 × mm_M) ⊕ (Int32 × Int32 × Int32 × Int32 × Int32 × Int32 × Int32 × Int32 × mm_M) ⊕ (Int32 × Int32 × Int32 × Int32 × Int32 × Int32 × Int32 × Int32 × Int32 × mm_M)) ⊕ (Int32 × mm_M)) :=
  (gA σ h0 2 1).bind fun q1 =>
  (aI σ q1 0 ((0 : Int32) + x8)).bind fun v2 =>
  some (.inl (.inr (.inr (.inl (x1, x2, x3, x4, x5, (t0 + t1), (x7 + ((x8 - x9) * v2)), (x8 + (1 : Int32)), σ)))))
noncomputable def g_X2_collect_141 (h0 : Nat) (x1 : Int32) (x2 : Int32) (x4 : Int32) (x5 : Int32) (x6 : Int32) (x7 : Int32) (x8 : Int32) (x9 : Int32) (x10 : Int32)  (σ : mm_M) : Option (((Int32 × Int32 × Int32 × mm_M) ⊕ (Int32 × Int32 × Int32 × mm_M) ⊕ (Int32 × Int32 × Int32 × Int32 × Int32 × Int32 × Int32 × Int32 × mm_M) ⊕ (Int32 × Int32 × Int32 × Int32 × Int32 × Int32 × Int32 × Int32 × Int32 × mm_M)) ⊕ (Int32 × mm_M)) :=
  (gA σ h0 2 1).bind fun q1 =>
  (aI σ q1 0 ((0 : Int32) + x8)).bind fun v2 =>
  if v2 ≤ x10 then (
    (gA σ h0 2 1).bind fun q4 =>
    (aI σ q4 0 ((0 : Int32) + x8)).bind fun v5 =>
    (gA σ h0 2 1).bind fun q6 =>
    (aI σ q6 0 ((0 : Int32) + x8)).bind fun v7 =>
    if x9 = x8 then (
      g_X2_collect_224 h0 x1 x2 (x9 + v5) (x4 + (1 : Int32)) (x5 + v7) x7 x8 x9 x6 (0 : Int32) σ)
    else (
      g_X2_collect_224 h0 x1 x2 (x9 + v5) (x4 + (1 : Int32)) (x5 + v7) x7 x8 x9 x6 (1 : Int32) σ))
  else (
    (gA σ h0 2 0).bind fun q9 =>
    (sI σ q9 0 (((1000 : Int32) + x8) + x10) (x9 + x10)).bind fun σ10 =>
    some (.inl (.inr (.inr (.inr (x1, x2, x4, x5, x6, x7, x8, x9, (x10 + (1 : Int32)), σ10))))))
noncomputable def g_X2_collect_0 (h0 : Nat)   (σ : mm_M) : Option (((Int32 × Int32 × Int32 × mm_M) ⊕ (Int32 × Int32 × Int32 × mm_M) ⊕ (Int32 × Int32 × Int32 × Int32 × Int32 × Int32 × Int32 × Int32 × mm_M) ⊕ (Int32 × Int32 × Int32 × Int32 × Int32 × Int32 × Int32 × Int32 × Int32 × mm_M)) ⊕ (Int32 × mm_M)) :=
  (ck σ h0 2).bind fun _ =>
  (f_X2_occupied h0 σ).bind fun v1 =>
  (ck σ h0 2).bind fun _ =>
  b2 (f_X2_marks h0 σ) fun v2 σ3 =>
  some (.inl (.inl (v1, v2, (0 : Int32), σ3)))
noncomputable def s_X2_collect (h0 : Nat) : (Int32 × Int32 × Int32 × mm_M) ⊕ (Int32 × Int32 × Int32 × mm_M) ⊕ (Int32 × Int32 × Int32 × Int32 × Int32 × Int32 × Int32 × Int32 × mm_M) ⊕ (Int32 × Int32 × Int32 × Int32 × Int32 × Int32 × Int32 × Int32 × Int32 × mm_M) → Option (((Int32 × Int32 × Int32 × mm_M) ⊕ (Int32 × Int32 × Int32 × mm_M) ⊕ (Int32 × Int32 × Int32 × Int32 × Int32 × Int32 × Int32 × Int32 × mm_M) ⊕ (Int32 × Int32 × Int32 × Int32 × Int32 × Int32 × Int32 × Int32 × Int32 × mm_M)) ⊕ (Int32 × mm_M)) := fun s => match s with
  | (.inl s) => g_X2_collect_12 h0 s.1 s.2.1 s.2.2.1 s.2.2.2
  | (.inr (.inl s)) => g_X2_collect_39 h0 s.1 s.2.1 s.2.2.1 s.2.2.2
  | (.inr (.inr (.inl s))) => g_X2_collect_80 h0 s.1 s.2.1 s.2.2.1 s.2.2.2.1 s.2.2.2.2.1 s.2.2.2.2.2.1 s.2.2.2.2.2.2.1 s.2.2.2.2.2.2.2.1 s.2.2.2.2.2.2.2.2
  | (.inr (.inr (.inr s))) => g_X2_collect_141 h0 s.1 s.2.1 s.2.2.1 s.2.2.2.1 s.2.2.2.2.1 s.2.2.2.2.2.1 s.2.2.2.2.2.2.1 s.2.2.2.2.2.2.2.1 s.2.2.2.2.2.2.2.2.1 s.2.2.2.2.2.2.2.2.2
noncomputable def f_X2_collect (h0 : Nat) (σ : mm_M) : Option (Int32 × mm_M) := lgo (s_X2_collect h0) (g_X2_collect_0 h0 σ)
/-! IslandHeapModel.moved(I)I -/
def f_X2_moved (h0 : Nat) (x1 : Int32) (σ : mm_M) : Option (Int32) :=
  (gA σ h0 2 0).bind fun q1 =>
  (aI σ q1 0 (1216 : Int32)).bind fun v2 =>
  (f_X2_in x1 (0 : Int32) (v2 - (1 : Int32)) σ).bind fun v3 =>
  if v3 = 0 then (
    some (-1000002 : Int32))
  else (
    (gA σ h0 2 0).bind fun q5 =>
    (aI σ q5 0 (1221 : Int32)).bind fun v6 =>
    if v6 = (1 : Int32) then (
      (gA σ h0 2 0).bind fun q8 =>
      (aI σ q8 0 ((1000 : Int32) + x1)).bind fun v9 =>
      some v9)
    else (
      some (-1000003 : Int32)))
/-! IslandHeapModel.report(I)I -/
def f_X2_report (h0 : Nat) (x1 : Int32) (σ : mm_M) : Option (Int32) :=
  (f_X2_in x1 (0 : Int32) (5 : Int32) σ).bind fun v1 =>
  if v1 = 0 then (
    some (-1000002 : Int32))
  else (
    (gA σ h0 2 0).bind fun q3 =>
    (aI σ q3 0 (1221 : Int32)).bind fun v4 =>
    if v4 = (1 : Int32) then (
      (gA σ h0 2 0).bind fun q6 =>
      (aI σ q6 0 ((1210 : Int32) + x1)).bind fun v7 =>
      some v7)
    else (
      some (-1000003 : Int32)))
/-! IslandHeapModel.reachedWords()I -/
noncomputable def g_X2_reachedWords_4 (h0 : Nat) (x1 : Int32) (x2 : Int32)  (σ : mm_M) : Option (((Int32 × Int32)) ⊕ (Int32)) :=
  (gA σ h0 2 0).bind fun q1 =>
  (aI σ q1 0 (1216 : Int32)).bind fun v2 =>
  if v2 ≤ x2 then (
    some (.inr x1))
  else (
    (gA σ h0 2 7).bind fun q4 =>
    (aI σ q4 0 x2).bind fun v5 =>
    if v5 = (-1 : Int32) then (
      some (.inl ((x1 + (0 : Int32)), (x2 + (1 : Int32)))))
    else (
      (gA σ h0 2 0).bind fun q7 =>
      (aI σ q7 0 ((0 : Int32) + x2)).bind fun v8 =>
      some (.inl ((x1 + v8), (x2 + (1 : Int32))))))
noncomputable def g_X2_reachedWords_0 (h0 : Nat)   (σ : mm_M) : Option (((Int32 × Int32)) ⊕ (Int32)) :=
  some (.inl ((0 : Int32), (0 : Int32)))
noncomputable def s_X2_reachedWords (h0 : Nat) (σ : mm_M) : (Int32 × Int32) → Option (((Int32 × Int32)) ⊕ (Int32)) := fun s => g_X2_reachedWords_4 h0 s.1 s.2 σ
noncomputable def f_X2_reachedWords (h0 : Nat) (σ : mm_M) : Option (Int32) := lgo (s_X2_reachedWords h0 σ) (g_X2_reachedWords_0 h0 σ)
/-! IslandHeapModel.garbage()I -/
noncomputable def f_X2_garbage (h0 : Nat) (σ : mm_M) : Option (Int32 × mm_M) :=
  (ck σ h0 2).bind fun _ =>
  (f_X2_reaches h0 (-1 : Int32) σ).bind fun σ1 =>
  (ck σ1 h0 2).bind fun _ =>
  (f_X2_occupied h0 σ1).bind fun v2 =>
  (ck σ1 h0 2).bind fun _ =>
  (f_X2_reachedWords h0 σ1).bind fun v3 =>
  some ((v2 - v3), σ1)
/-! IslandHeapModel.distance(I)I -/
noncomputable def f_X2_distance (h0 : Nat) (x1 : Int32) (σ : mm_M) : Option (Int32 × mm_M) :=
  (ck σ h0 2).bind fun _ =>
  (f_X2_objectOf h0 x1 σ).bind fun v1 =>
  if v1 = (-1 : Int32) then (
    some ((-1000002 : Int32), σ))
  else (
    (ck σ h0 2).bind fun _ =>
    (f_X2_reaches h0 (-1 : Int32) σ).bind fun σ3 =>
    (gA σ3 h0 2 7).bind fun q4 =>
    (aI σ3 q4 0 v1).bind fun v5 =>
    some (v5, σ3))
/-! IslandHeapModel.retained(I)I -/
noncomputable def f_X2_retained (h0 : Nat) (x1 : Int32) (σ : mm_M) : Option (Int32 × mm_M) :=
  (ck σ h0 2).bind fun _ =>
  (f_X2_objectOf h0 x1 σ).bind fun v1 =>
  if v1 = (-1 : Int32) then (
    some ((-1000002 : Int32), σ))
  else (
    (ck σ h0 2).bind fun _ =>
    (f_X2_reaches h0 (-1 : Int32) σ).bind fun σ3 =>
    (ck σ3 h0 2).bind fun _ =>
    (f_X2_reachedWords h0 σ3).bind fun v4 =>
    (gA σ3 h0 2 7).bind fun q5 =>
    (aI σ3 q5 0 v1).bind fun v6 =>
    if v6 = (-1 : Int32) then (
      some ((0 : Int32), σ3))
    else (
      (ck σ3 h0 2).bind fun _ =>
      (f_X2_reaches h0 v1 σ3).bind fun σ8 =>
      (ck σ8 h0 2).bind fun _ =>
      (f_X2_reachedWords h0 σ8).bind fun v9 =>
      some ((v4 - v9), σ8)))
/-! IslandHeapModel.free(I)I -/
noncomputable def g_X2_free_28 (h0 : Nat) (x1 : Int32) (x2 : Int32) (x3 : Int32) (x4 : Int32) (x5 : Int32) (x6 : Int32) (x7 : Int32)  (σ : mm_M) : Option (((Int32 × Int32 × Int32 × Int32 × Int32 × Int32) ⊕ (Int32 × Int32 × Int32 × Int32 × Int32 × Int32 × Int32)) ⊕ (Int32)) :=
  (gA σ h0 2 0).bind fun q1 =>
  (aI σ q1 0 (1216 : Int32)).bind fun v2 =>
  if v2 ≤ x7 then (
    if x1 = 0 then (
      some (.inr x2))
    else (
      if x1 = (1 : Int32) then (
        some (.inr x3))
      else (
        if x1 = (2 : Int32) then (
          some (.inr x4))
        else (
          if x1 = (3 : Int32) then (
            some (.inr x5))
          else (
            some (.inr x6))))))
  else (
    some (.inl (.inr (x2, x3, x4, x5, x6, x7, (0 : Int32)))))
noncomputable def g_X2_free_133 (h0 : Nat) (x1 : Int32) (x2 : Int32) (x3 : Int32) (x5 : Int32) (x6 : Int32) (x7 : Int32) (x8 : Int32) (t0 : Int32) (σ : mm_M) : Option (((Int32 × Int32 × Int32 × Int32 × Int32 × Int32) ⊕ (Int32 × Int32 × Int32 × Int32 × Int32 × Int32 × Int32)) ⊕ (Int32)) :=
  (gA σ h0 2 0).bind fun q1 =>
  (aI σ q1 0 (1216 : Int32)).bind fun v2 =>
  if v2 ≤ (x7 + x8) then (
    some (.inl (.inl (x2, x3, t0, x5, (x6 + (x8 / (4 : Int32))), ((x7 + x8) + (0 : Int32))))))
  else (
    (gA σ h0 2 0).bind fun q4 =>
    (aI σ q4 0 ((0 : Int32) + (x7 + x8))).bind fun v5 =>
    some (.inl (.inl (x2, x3, t0, x5, (x6 + (x8 / (4 : Int32))), ((x7 + x8) + v5)))))
noncomputable def g_X2_free_99 (h0 : Nat) (x1 : Int32) (x2 : Int32) (x3 : Int32) (x4 : Int32) (x6 : Int32) (x7 : Int32) (x8 : Int32) (t0 : Int32) (σ : mm_M) : Option (((Int32 × Int32 × Int32 × Int32 × Int32 × Int32) ⊕ (Int32 × Int32 × Int32 × Int32 × Int32 × Int32 × Int32)) ⊕ (Int32)) :=
  if x8 ≤ 0 then (
    if x8 ≤ x4 then (
      g_X2_free_133 h0 x1 (x2 + x8) (x3 + (0 : Int32)) t0 x6 x7 x8 x4 σ)
    else (
      g_X2_free_133 h0 x1 (x2 + x8) (x3 + (0 : Int32)) t0 x6 x7 x8 x8 σ))
  else (
    if x8 ≤ x4 then (
      g_X2_free_133 h0 x1 (x2 + x8) (x3 + (1 : Int32)) t0 x6 x7 x8 x4 σ)
    else (
      g_X2_free_133 h0 x1 (x2 + x8) (x3 + (1 : Int32)) t0 x6 x7 x8 x8 σ))
noncomputable def g_X2_free_44 (h0 : Nat) (x1 : Int32) (x2 : Int32) (x3 : Int32) (x4 : Int32) (x5 : Int32) (x6 : Int32) (x7 : Int32) (x8 : Int32)  (σ : mm_M) : Option (((Int32 × Int32 × Int32 × Int32 × Int32 × Int32) ⊕ (Int32 × Int32 × Int32 × Int32 × Int32 × Int32 × Int32)) ⊕ (Int32)) :=
  (gA σ h0 2 0).bind fun q1 =>
  (aI σ q1 0 (1216 : Int32)).bind fun v2 =>
  if v2 ≤ (x7 + x8) then (
    if x8 ≤ 0 then (
      g_X2_free_99 h0 x1 x2 x3 x4 x6 x7 x8 x5 σ)
    else (
      if x5 = (-1 : Int32) then (
        g_X2_free_99 h0 x1 x2 x3 x4 x6 x7 x8 x7 σ)
      else (
        g_X2_free_99 h0 x1 x2 x3 x4 x6 x7 x8 x5 σ)))
  else (
    (gA σ h0 2 0).bind fun q6 =>
    (aI σ q6 0 (((0 : Int32) + x7) + x8)).bind fun v7 =>
    if v7 = 0 then (
      some (.inl (.inr (x2, x3, x4, x5, x6, x7, (x8 + (1 : Int32))))))
    else (
      if x8 ≤ 0 then (
        g_X2_free_99 h0 x1 x2 x3 x4 x6 x7 x8 x5 σ)
      else (
        if x5 = (-1 : Int32) then (
          g_X2_free_99 h0 x1 x2 x3 x4 x6 x7 x8 x7 σ)
        else (
          g_X2_free_99 h0 x1 x2 x3 x4 x6 x7 x8 x5 σ))))
noncomputable def g_X2_free_0 (h0 : Nat) (x1 : Int32)   (σ : mm_M) : Option (((Int32 × Int32 × Int32 × Int32 × Int32 × Int32) ⊕ (Int32 × Int32 × Int32 × Int32 × Int32 × Int32 × Int32)) ⊕ (Int32)) :=
  (f_X2_in x1 (0 : Int32) (4 : Int32) σ).bind fun v1 =>
  if v1 = 0 then (
    some (.inr (-1000002 : Int32)))
  else (
    some (.inl (.inl ((0 : Int32), (0 : Int32), (0 : Int32), (-1 : Int32), (0 : Int32), (0 : Int32)))))
noncomputable def s_X2_free (h0 : Nat) (x1 : Int32) (σ : mm_M) : (Int32 × Int32 × Int32 × Int32 × Int32 × Int32) ⊕ (Int32 × Int32 × Int32 × Int32 × Int32 × Int32 × Int32) → Option (((Int32 × Int32 × Int32 × Int32 × Int32 × Int32) ⊕ (Int32 × Int32 × Int32 × Int32 × Int32 × Int32 × Int32)) ⊕ (Int32)) := fun s => match s with
  | (.inl s) => g_X2_free_28 h0 x1 s.1 s.2.1 s.2.2.1 s.2.2.2.1 s.2.2.2.2.1 s.2.2.2.2.2 σ
  | (.inr s) => g_X2_free_44 h0 x1 s.1 s.2.1 s.2.2.1 s.2.2.2.1 s.2.2.2.2.1 s.2.2.2.2.2.1 s.2.2.2.2.2.2 σ
noncomputable def f_X2_free (h0 : Nat) (x1 : Int32) (σ : mm_M) : Option (Int32) := lgo (s_X2_free h0 x1 σ) (g_X2_free_0 h0 x1 σ)
/-! IslandHeapModel.type(I)I -/
def f_X2_type (h0 : Nat) (x1 : Int32) (σ : mm_M) : Option (Int32 × mm_M) :=
  (f_X2_in x1 (0 : Int32) (127 : Int32) σ).bind fun v1 =>
  if v1 = 0 then (
    some ((-1000002 : Int32), σ))
  else (
    (gI σ h0 2 5).bind fun v3 =>
    if v3 = (80 : Int32) then (
      some ((-1000004 : Int32), σ))
    else (
      (gA σ h0 2 4).bind fun q5 =>
      (gI σ h0 2 5).bind fun v6 =>
      (sI σ q5 0 v6 x1).bind fun σ7 =>
      (gI σ7 h0 2 5).bind fun v8 =>
      (pF σ7 h0 2 5 (vI (v8 + (1 : Int32)))).bind fun σ9 =>
      (gI σ9 h0 2 5).bind fun v10 =>
      some (v10, σ9)))
/-! IslandHeapModel.clearText()I -/
def f_X2_clearText (h0 : Nat) (σ : mm_M) : Option (Int32 × mm_M) :=
  (gI σ h0 2 5).bind fun v1 =>
  (pF σ h0 2 5 (vI (0 : Int32))).bind fun σ2 =>
  some (v1, σ2)
/-! IslandHeapModel.next()I -/
def f_X2_next_2 (h0 : Nat) (σ : mm_M) : Option (Int32) :=
  (gI σ h0 2 15).bind fun v1 =>
  (gI σ h0 2 5).bind fun v2 =>
  if v2 ≤ v1 then (
    some (-1 : Int32))
  else (
    (gA σ h0 2 4).bind fun q4 =>
    (gI σ h0 2 15).bind fun v5 =>
    (aI σ q4 0 v5).bind fun v6 =>
    some v6)
/-! IslandHeapModel.blanks()V -/
noncomputable def g_X2_blanks_0 (h0 : Nat)   (σ : mm_M) : Option (((mm_M)) ⊕ (mm_M)) :=
  (ck σ h0 2).bind fun _ =>
  (f_X2_next_2 h0 σ).bind fun v1 =>
  if v1 = (32 : Int32) then (
    (gI σ h0 2 15).bind fun v3 =>
    (pF σ h0 2 15 (vI (v3 + (1 : Int32)))).bind fun σ4 =>
    some (.inl σ4))
  else (
    some (.inr σ))
noncomputable def s_X2_blanks (h0 : Nat) : (mm_M) → Option (((mm_M)) ⊕ (mm_M)) := fun s => g_X2_blanks_0 h0 s
noncomputable def f_X2_blanks (h0 : Nat) (σ : mm_M) : Option (mm_M) := lgo (s_X2_blanks h0) (some (.inl σ))
/-! IslandHeapModel.fails()V -/
def f_X2_fails (h0 : Nat) (σ : mm_M) : Option (mm_M) :=
  (gI σ h0 2 16).bind fun v1 =>
  if v1 = (-1 : Int32) then (
    (gI σ h0 2 15).bind fun v5 =>
    (pF σ h0 2 16 (vI v5)).bind fun σ6 =>
    some σ6)
  else (
    (gI σ h0 2 16).bind fun v3 =>
    (pF σ h0 2 16 (vI v3)).bind fun σ4 =>
    some σ4)
/-! IslandHeapModel.isDigit()Z -/
def f_X2_isDigit (h0 : Nat) (σ : mm_M) : Option (Int32) :=
  (ck σ h0 2).bind fun _ =>
  (f_X2_next_2 h0 σ).bind fun v1 =>
  (f_X2_in v1 (48 : Int32) (57 : Int32) σ).bind fun v2 =>
  (grd (v2 = 0 ∨ v2 = 1)).bind fun _ =>
  some v2
/-! IslandHeapModel.digit()I -/
noncomputable def f_X2_digit (h0 : Nat) (σ : mm_M) : Option (Int32 × mm_M) :=
  (ck σ h0 2).bind fun _ =>
  (f_X2_next_2 h0 σ).bind fun v1 =>
  (gI σ h0 2 16).bind fun v2 =>
  if v2 = (-1 : Int32) then (
    (ck σ h0 2).bind fun _ =>
    (f_X2_isDigit h0 σ).bind fun v5 =>
    if v5 = 0 then (
      (ck σ h0 2).bind fun _ =>
      (f_X2_fails h0 σ).bind fun σ10 =>
      some ((0 : Int32), σ10))
    else (
      (gI σ h0 2 15).bind fun v7 =>
      (pF σ h0 2 15 (vI (v7 + (1 : Int32)))).bind fun σ8 =>
      (ck σ8 h0 2).bind fun _ =>
      (f_X2_blanks h0 σ8).bind fun σ9 =>
      some ((v1 - (48 : Int32)), σ9)))
  else (
    (ck σ h0 2).bind fun _ =>
    (f_X2_fails h0 σ).bind fun σ4 =>
    some ((0 : Int32), σ4))
/-! IslandHeapModel.number()I -/
noncomputable def g_X2_number_58 (h0 : Nat) (x1 : Int32) (x2 : Int32)  (σ : mm_M) : Option (((Int32 × Int32 × mm_M)) ⊕ (Int32 × mm_M)) :=
  (gI σ h0 2 15).bind fun v1 =>
  if v1 = x1 then (
    (ck σ h0 2).bind fun _ =>
    (f_X2_fails h0 σ).bind fun σ3 =>
    (ck σ3 h0 2).bind fun _ =>
    (f_X2_blanks h0 σ3).bind fun σ4 =>
    some (.inr (x2, σ4)))
  else (
    (ck σ h0 2).bind fun _ =>
    (f_X2_isDigit h0 σ).bind fun v5 =>
    if v5 = 0 then (
      (ck σ h0 2).bind fun _ =>
      (f_X2_blanks h0 σ).bind fun σ7 =>
      some (.inr (x2, σ7)))
    else (
      (ck σ h0 2).bind fun _ =>
      (f_X2_fails h0 σ).bind fun σ8 =>
      (ck σ8 h0 2).bind fun _ =>
      (f_X2_blanks h0 σ8).bind fun σ9 =>
      some (.inr (x2, σ9))))
noncomputable def g_X2_number_7 (h0 : Nat) (x1 : Int32) (x2 : Int32)  (σ : mm_M) : Option (((Int32 × Int32 × mm_M)) ⊕ (Int32 × mm_M)) :=
  (gI σ h0 2 16).bind fun v1 =>
  if v1 = (-1 : Int32) then (
    (ck σ h0 2).bind fun _ =>
    (f_X2_isDigit h0 σ).bind fun v3 =>
    if v3 = 0 then (
      g_X2_number_58 h0 x1 x2 σ)
    else (
      (gI σ h0 2 15).bind fun v5 =>
      if (x1 + (3 : Int32)) ≤ v5 then (
        g_X2_number_58 h0 x1 x2 σ)
      else (
        (ck σ h0 2).bind fun _ =>
        (f_X2_next_2 h0 σ).bind fun v7 =>
        (gI σ h0 2 15).bind fun v8 =>
        (pF σ h0 2 15 (vI (v8 + (1 : Int32)))).bind fun σ9 =>
        some (.inl (x1, ((((10 : Int32) * x2) + v7) - (48 : Int32)), σ9)))))
  else (
    g_X2_number_58 h0 x1 x2 σ)
noncomputable def g_X2_number_0 (h0 : Nat)   (σ : mm_M) : Option (((Int32 × Int32 × mm_M)) ⊕ (Int32 × mm_M)) :=
  (gI σ h0 2 15).bind fun v1 =>
  some (.inl (v1, (0 : Int32), σ))
noncomputable def s_X2_number (h0 : Nat) : (Int32 × Int32 × mm_M) → Option (((Int32 × Int32 × mm_M)) ⊕ (Int32 × mm_M)) := fun s => g_X2_number_7 h0 s.1 s.2.1 s.2.2
noncomputable def f_X2_number (h0 : Nat) (σ : mm_M) : Option (Int32 × mm_M) := lgo (s_X2_number h0) (g_X2_number_0 h0 σ)
/-! IslandHeapModel.place()I -/
noncomputable def f_X2_place (h0 : Nat) (σ : mm_M) : Option (Int32 × mm_M) :=
  (gI σ h0 2 16).bind fun v1 =>
  if v1 = (-1 : Int32) then (
    (ck σ h0 2).bind fun _ =>
    (f_X2_next_2 h0 σ).bind fun v5 =>
    if v5 = (45 : Int32) then (
      (gI σ h0 2 15).bind fun v9 =>
      (pF σ h0 2 15 (vI (v9 + (1 : Int32)))).bind fun σ10 =>
      (ck σ10 h0 2).bind fun _ =>
      (f_X2_blanks h0 σ10).bind fun σ11 =>
      some ((-1 : Int32), σ11))
    else (
      (ck σ h0 2).bind fun _ =>
      b2 (f_X2_number h0 σ) fun v7 σ8 =>
      some (v7, σ8)))
  else (
    (ck σ h0 2).bind fun _ =>
    b2 (f_X2_number h0 σ) fun v3 σ4 =>
    some (v3, σ4))
/-! IslandHeapModel.reads()V -/
noncomputable def g_X2_reads_215 (h0 : Nat)   (σ : mm_M) : Option (mm_M) :=
  (gI σ h0 2 16).bind fun v1 =>
  if v1 = (-1 : Int32) then (
    (ck σ h0 2).bind fun _ =>
    (f_X2_next_2 h0 σ).bind fun v6 =>
    if v6 = (59 : Int32) then (
      (gI σ h0 2 15).bind fun v11 =>
      (pF σ h0 2 15 (vI (v11 + (1 : Int32)))).bind fun σ12 =>
      (ck σ12 h0 2).bind fun _ =>
      (f_X2_blanks h0 σ12).bind fun σ13 =>
      (gI σ13 h0 2 14).bind fun v14 =>
      (pF σ13 h0 2 14 (vI (v14 + (1 : Int32)))).bind fun σ15 =>
      some σ15)
    else (
      (ck σ h0 2).bind fun _ =>
      (f_X2_fails h0 σ).bind fun σ8 =>
      (gI σ8 h0 2 14).bind fun v9 =>
      (pF σ8 h0 2 14 (vI (v9 + (1 : Int32)))).bind fun σ10 =>
      some σ10))
  else (
    (ck σ h0 2).bind fun _ =>
    (f_X2_fails h0 σ).bind fun σ3 =>
    (gI σ3 h0 2 14).bind fun v4 =>
    (pF σ3 h0 2 14 (vI (v4 + (1 : Int32)))).bind fun σ5 =>
    some σ5)
noncomputable def g_X2_reads_125 (h0 : Nat) (x2 : Int32)  (σ : mm_M) : Option (mm_M) :=
  (gA σ h0 2 13).bind fun q1 =>
  (ck σ h0 2).bind fun _ =>
  b2 (f_X2_digit h0 σ) fun v2 σ3 =>
  (sI σ3 q1 0 (x2 + (1 : Int32)) v2).bind fun σ4 =>
  (gA σ4 h0 2 13).bind fun q5 =>
  (ck σ4 h0 2).bind fun _ =>
  b2 (f_X2_place h0 σ4) fun v6 σ7 =>
  (sI σ7 q5 0 (x2 + (2 : Int32)) v6).bind fun σ8 =>
  g_X2_reads_215 h0 σ8
noncomputable def g_X2_reads_59 (h0 : Nat) (x1 : Int32) (x2 : Int32)  (σ : mm_M) : Option (mm_M) :=
  (gA σ h0 2 13).bind fun q1 =>
  (sI σ q1 0 x2 x1).bind fun σ2 =>
  (gI σ2 h0 2 15).bind fun v3 =>
  (pF σ2 h0 2 15 (vI (v3 + (1 : Int32)))).bind fun σ4 =>
  (ck σ4 h0 2).bind fun _ =>
  (f_X2_blanks h0 σ4).bind fun σ5 =>
  if x1 = (110 : Int32) then (
    (gA σ5 h0 2 13).bind fun q27 =>
    (ck σ5 h0 2).bind fun _ =>
    b2 (f_X2_digit h0 σ5) fun v28 σ29 =>
    (sI σ29 q27 0 (x2 + (1 : Int32)) v28).bind fun σ30 =>
    (gA σ30 h0 2 13).bind fun q31 =>
    (ck σ30 h0 2).bind fun _ =>
    b2 (f_X2_digit h0 σ30) fun v32 σ33 =>
    (sI σ33 q31 0 (x2 + (2 : Int32)) v32).bind fun σ34 =>
    g_X2_reads_215 h0 σ34)
  else (
    if x1 = (114 : Int32) then (
      g_X2_reads_125 h0 x2 σ5)
    else (
      if x1 = (119 : Int32) then (
        g_X2_reads_125 h0 x2 σ5)
      else (
        if x1 = (102 : Int32) then (
          (gA σ5 h0 2 13).bind fun q15 =>
          (ck σ5 h0 2).bind fun _ =>
          b2 (f_X2_number h0 σ5) fun v16 σ17 =>
          (sI σ17 q15 0 (x2 + (1 : Int32)) v16).bind fun σ18 =>
          (gA σ18 h0 2 13).bind fun q19 =>
          (ck σ18 h0 2).bind fun _ =>
          b2 (f_X2_digit h0 σ18) fun v20 σ21 =>
          (sI σ21 q19 0 (x2 + (2 : Int32)) v20).bind fun σ22 =>
          (gA σ22 h0 2 13).bind fun q23 =>
          (ck σ22 h0 2).bind fun _ =>
          b2 (f_X2_place h0 σ22) fun v24 σ25 =>
          (sI σ25 q23 0 (x2 + (3 : Int32)) v24).bind fun σ26 =>
          g_X2_reads_215 h0 σ26)
        else (
          if x1 = (99 : Int32) then (
            g_X2_reads_215 h0 σ5)
          else (
            (gA σ5 h0 2 13).bind fun q11 =>
            (ck σ5 h0 2).bind fun _ =>
            b2 (f_X2_number h0 σ5) fun v12 σ13 =>
            (sI σ13 q11 0 (x2 + (1 : Int32)) v12).bind fun σ14 =>
            g_X2_reads_215 h0 σ14)))))
noncomputable def f_X2_reads (h0 : Nat) (σ : mm_M) : Option (mm_M) :=
  (ck σ h0 2).bind fun _ =>
  (f_X2_next_2 h0 σ).bind fun v1 =>
  (gI σ h0 2 14).bind fun v2 =>
  if v1 = (110 : Int32) then (
    g_X2_reads_59 h0 v1 ((4 : Int32) * v2) σ)
  else (
    if v1 = (114 : Int32) then (
      g_X2_reads_59 h0 v1 ((4 : Int32) * v2) σ)
    else (
      if v1 = (119 : Int32) then (
        g_X2_reads_59 h0 v1 ((4 : Int32) * v2) σ)
      else (
        if v1 = (102 : Int32) then (
          g_X2_reads_59 h0 v1 ((4 : Int32) * v2) σ)
        else (
          if v1 = (112 : Int32) then (
            g_X2_reads_59 h0 v1 ((4 : Int32) * v2) σ)
          else (
            if v1 = (117 : Int32) then (
              g_X2_reads_59 h0 v1 ((4 : Int32) * v2) σ)
            else (
              if v1 = (99 : Int32) then (
                g_X2_reads_59 h0 v1 ((4 : Int32) * v2) σ)
              else (
                (ck σ h0 2).bind fun _ =>
                (f_X2_fails h0 σ).bind fun σ10 =>
                some σ10)))))))
/-! IslandHeapModel.fault()I -/
noncomputable def g_X2_fault_19 (h0 : Nat)   (σ : mm_M) : Option (((mm_M)) ⊕ (Int32 × mm_M)) :=
  (gI σ h0 2 16).bind fun v1 =>
  if v1 = (-1 : Int32) then (
    (gI σ h0 2 15).bind fun v4 =>
    (gI σ h0 2 5).bind fun v5 =>
    if v5 ≤ v4 then (
      (gI σ h0 2 16).bind fun v7 =>
      some (.inr (v7, σ)))
    else (
      (ck σ h0 2).bind fun _ =>
      (f_X2_reads h0 σ).bind fun σ8 =>
      some (.inl σ8)))
  else (
    (gI σ h0 2 16).bind fun v3 =>
    some (.inr (v3, σ)))
noncomputable def g_X2_fault_0 (h0 : Nat)   (σ : mm_M) : Option (((mm_M)) ⊕ (Int32 × mm_M)) :=
  (pF σ h0 2 15 (vI (0 : Int32))).bind fun σ1 =>
  (pF σ1 h0 2 14 (vI (0 : Int32))).bind fun σ2 =>
  (pF σ2 h0 2 16 (vI (-1 : Int32))).bind fun σ3 =>
  (ck σ3 h0 2).bind fun _ =>
  (f_X2_blanks h0 σ3).bind fun σ4 =>
  some (.inl σ4)
noncomputable def s_X2_fault (h0 : Nat) : (mm_M) → Option (((mm_M)) ⊕ (Int32 × mm_M)) := fun s => g_X2_fault_19 h0 s
noncomputable def f_X2_fault (h0 : Nat) (σ : mm_M) : Option (Int32 × mm_M) := lgo (s_X2_fault h0) (g_X2_fault_0 h0 σ)
/-! IslandHeapModel.does(I)I -/
noncomputable def f_X2_does (h0 : Nat) (x1 : Int32) (σ : mm_M) : Option (Int32 × mm_M) :=
  (gA σ h0 2 13).bind fun q1 =>
  (aI σ q1 0 (((4 : Int32) * x1) + (1 : Int32))).bind fun v2 =>
  (gA σ h0 2 13).bind fun q3 =>
  (aI σ q3 0 (((4 : Int32) * x1) + (2 : Int32))).bind fun v4 =>
  (gA σ h0 2 13).bind fun q5 =>
  (aI σ q5 0 ((4 : Int32) * x1)).bind fun v6 =>
  if v6 = (102 : Int32) then (
    (gA σ h0 2 13).bind fun q25 =>
    (aI σ q25 0 (((4 : Int32) * x1) + (3 : Int32))).bind fun v26 =>
    (ck σ h0 2).bind fun _ =>
    b2 (f_X2_setField h0 v2 v4 v26 σ) fun v27 σ28 =>
    some (v27, σ28))
  else (
    if v6 = (103 : Int32) then (
      (ck σ h0 2).bind fun _ =>
      b2 (f_X2_collect h0 σ) fun v29 σ30 =>
      some (v29, σ30))
    else (
      if v6 = (104 : Int32) then (
        (ck σ h0 2).bind fun _ =>
        b2 (f_X2_collect h0 σ) fun v31 σ32 =>
        some (v31, σ32))
      else (
        if v6 = (105 : Int32) then (
          (ck σ h0 2).bind fun _ =>
          b2 (f_X2_collect h0 σ) fun v33 σ34 =>
          some (v33, σ34))
        else (
          if v6 = (106 : Int32) then (
            (ck σ h0 2).bind fun _ =>
            b2 (f_X2_collect h0 σ) fun v35 σ36 =>
            some (v35, σ36))
          else (
            if v6 = (107 : Int32) then (
              (ck σ h0 2).bind fun _ =>
              b2 (f_X2_collect h0 σ) fun v37 σ38 =>
              some (v37, σ38))
            else (
              if v6 = (108 : Int32) then (
                (ck σ h0 2).bind fun _ =>
                b2 (f_X2_collect h0 σ) fun v39 σ40 =>
                some (v39, σ40))
              else (
                if v6 = (109 : Int32) then (
                  (ck σ h0 2).bind fun _ =>
                  b2 (f_X2_collect h0 σ) fun v41 σ42 =>
                  some (v41, σ42))
                else (
                  if v6 = (110 : Int32) then (
                    (ck σ h0 2).bind fun _ =>
                    b2 (f_X2_alloc h0 v2 v4 σ) fun v43 σ44 =>
                    some (v43, σ44))
                  else (
                    if v6 = (111 : Int32) then (
                      (ck σ h0 2).bind fun _ =>
                      b2 (f_X2_collect h0 σ) fun v45 σ46 =>
                      some (v45, σ46))
                    else (
                      if v6 = (112 : Int32) then (
                        (ck σ h0 2).bind fun _ =>
                        b2 (f_X2_pin h0 v2 (1 : Int32) σ) fun v47 σ48 =>
                        some (v47, σ48))
                      else (
                        if v6 = (113 : Int32) then (
                          (ck σ h0 2).bind fun _ =>
                          b2 (f_X2_collect h0 σ) fun v49 σ50 =>
                          some (v49, σ50))
                        else (
                          if v6 = (114 : Int32) then (
                            (ck σ h0 2).bind fun _ =>
                            b2 (f_X2_setRoot h0 v2 v4 σ) fun v51 σ52 =>
                            some (v51, σ52))
                          else (
                            if v6 = (115 : Int32) then (
                              (ck σ h0 2).bind fun _ =>
                              b2 (f_X2_collect h0 σ) fun v53 σ54 =>
                              some (v53, σ54))
                            else (
                              if v6 = (116 : Int32) then (
                                (ck σ h0 2).bind fun _ =>
                                b2 (f_X2_collect h0 σ) fun v55 σ56 =>
                                some (v55, σ56))
                              else (
                                if v6 = (117 : Int32) then (
                                  (ck σ h0 2).bind fun _ =>
                                  b2 (f_X2_pin h0 v2 (0 : Int32) σ) fun v57 σ58 =>
                                  some (v57, σ58))
                                else (
                                  if v6 = (118 : Int32) then (
                                    (ck σ h0 2).bind fun _ =>
                                    b2 (f_X2_collect h0 σ) fun v59 σ60 =>
                                    some (v59, σ60))
                                  else (
                                    if v6 = (119 : Int32) then (
                                      (ck σ h0 2).bind fun _ =>
                                      b2 (f_X2_setWeak h0 v2 v4 σ) fun v61 σ62 =>
                                      some (v61, σ62))
                                    else (
                                      (ck σ h0 2).bind fun _ =>
                                      b2 (f_X2_collect h0 σ) fun v63 σ64 =>
                                      some (v63, σ64)))))))))))))))))))
/-! IslandHeapModel.run()I -/
noncomputable def g_X2_run_53 (h0 : Nat) (x1 : Int32) (x2 : Int32) (x3 : Int32) (t0 : Nat) (t1 : Int32) (σ : mm_M) : Option (((Int32 × Int32 × mm_M)) ⊕ (Int32 × mm_M)) :=
  (pF σ t0 2 6 (vI t1)).bind fun σ1 =>
  if (-1000002 : Int32) < x3 then (
    some (.inl ((x1 + (1 : Int32)), (x2 + (1 : Int32)), σ1)))
  else (
    some (.inl ((x1 + (0 : Int32)), (x2 + (1 : Int32)), σ1)))
noncomputable def g_X2_run_20 (h0 : Nat) (x1 : Int32) (x2 : Int32)  (σ : mm_M) : Option (((Int32 × Int32 × mm_M)) ⊕ (Int32 × mm_M)) :=
  (gI σ h0 2 14).bind fun v1 =>
  if v1 ≤ x2 then (
    some (.inr (x1, σ)))
  else (
    (gI σ h0 2 6).bind fun v3 =>
    if v3 = 0 then (
      (ck σ h0 2).bind fun _ =>
      b2 (f_X2_does h0 x2 σ) fun v5 σ6 =>
      if (-1000002 : Int32) < v5 then (
        g_X2_run_53 h0 x1 x2 v5 h0 (0 : Int32) σ6)
      else (
        g_X2_run_53 h0 x1 x2 v5 h0 v5 σ6))
    else (
      some (.inr (x1, σ))))
noncomputable def g_X2_run_0 (h0 : Nat)   (σ : mm_M) : Option (((Int32 × Int32 × mm_M)) ⊕ (Int32 × mm_M)) :=
  (ck σ h0 2).bind fun _ =>
  b2 (f_X2_fault h0 σ) fun v1 σ2 =>
  if v1 = (-1 : Int32) then (
    (pF σ2 h0 2 6 (vI (0 : Int32))).bind fun σ4 =>
    some (.inl ((0 : Int32), (0 : Int32), σ4)))
  else (
    some (.inr ((-1000003 : Int32), σ2)))
noncomputable def s_X2_run (h0 : Nat) : (Int32 × Int32 × mm_M) → Option (((Int32 × Int32 × mm_M)) ⊕ (Int32 × mm_M)) := fun s => g_X2_run_20 h0 s.1 s.2.1 s.2.2
noncomputable def f_X2_run (h0 : Nat) (σ : mm_M) : Option (Int32 × mm_M) := lgo (s_X2_run h0) (g_X2_run_0 h0 σ)
/-! IslandHeapModel.refusal()I -/
def f_X2_refusal (h0 : Nat) (σ : mm_M) : Option (Int32) :=
  (gI σ h0 2 6).bind fun v1 =>
  some v1
/-! IslandHeapModel.save(I)I -/
noncomputable def g_X2_save_14 (h0 : Nat) (x1 : Int32) (x2 : Int32)  (σ : mm_M) : Option (((Int32 × mm_M)) ⊕ (Int32 × mm_M)) :=
  if (1222 : Int32) ≤ x2 then (
    (gA σ h0 2 3).bind fun q2 =>
    (sI σ q2 1 x1 (1 : Int32)).bind fun σ3 =>
    (ck σ3 h0 2).bind fun _ =>
    (f_X2_many h0 (0 : Int32) σ3).bind fun v4 =>
    some (.inr (v4, σ3)))
  else (
    (gA σ h0 2 2).bind fun q5 =>
    (gA σ h0 2 0).bind fun q6 =>
    (aI σ q6 0 x2).bind fun v7 =>
    (sI σ q5 0 (((1222 : Int32) * x1) + x2) v7).bind fun σ8 =>
    some (.inl ((x2 + (1 : Int32)), σ8)))
noncomputable def g_X2_save_0 (h0 : Nat) (x1 : Int32)   (σ : mm_M) : Option (((Int32 × mm_M)) ⊕ (Int32 × mm_M)) :=
  (f_X2_in x1 (0 : Int32) (1 : Int32) σ).bind fun v1 =>
  if v1 = 0 then (
    some (.inr ((-1000002 : Int32), σ)))
  else (
    some (.inl ((0 : Int32), σ)))
noncomputable def s_X2_save (h0 : Nat) (x1 : Int32) : (Int32 × mm_M) → Option (((Int32 × mm_M)) ⊕ (Int32 × mm_M)) := fun s => g_X2_save_14 h0 x1 s.1 s.2
noncomputable def f_X2_save (h0 : Nat) (x1 : Int32) (σ : mm_M) : Option (Int32 × mm_M) := lgo (s_X2_save h0 x1) (g_X2_save_0 h0 x1 σ)
/-! IslandHeapModel.restore(I)I -/
noncomputable def g_X2_restore_26 (h0 : Nat) (x1 : Int32) (x2 : Int32)  (σ : mm_M) : Option (((Int32 × mm_M)) ⊕ (Int32 × mm_M)) :=
  if (1222 : Int32) ≤ x2 then (
    (ck σ h0 2).bind fun _ =>
    (f_X2_many h0 (0 : Int32) σ).bind fun v2 =>
    some (.inr (v2, σ)))
  else (
    (gA σ h0 2 0).bind fun q3 =>
    (gA σ h0 2 2).bind fun q4 =>
    (aI σ q4 0 (((1222 : Int32) * x1) + x2)).bind fun v5 =>
    (sI σ q3 0 x2 v5).bind fun σ6 =>
    some (.inl ((x2 + (1 : Int32)), σ6)))
noncomputable def g_X2_restore_0 (h0 : Nat) (x1 : Int32)   (σ : mm_M) : Option (((Int32 × mm_M)) ⊕ (Int32 × mm_M)) :=
  (f_X2_in x1 (0 : Int32) (1 : Int32) σ).bind fun v1 =>
  if v1 = 0 then (
    some (.inr ((-1000002 : Int32), σ)))
  else (
    (gA σ h0 2 3).bind fun q3 =>
    (aI σ q3 1 x1).bind fun v4 =>
    if v4 = 0 then (
      some (.inr ((-1000003 : Int32), σ)))
    else (
      some (.inl ((0 : Int32), σ))))
noncomputable def s_X2_restore (h0 : Nat) (x1 : Int32) : (Int32 × mm_M) → Option (((Int32 × mm_M)) ⊕ (Int32 × mm_M)) := fun s => g_X2_restore_26 h0 x1 s.1 s.2
noncomputable def f_X2_restore (h0 : Nat) (x1 : Int32) (σ : mm_M) : Option (Int32 × mm_M) := lgo (s_X2_restore h0 x1) (g_X2_restore_0 h0 x1 σ)
/-! IslandHeapModel.count(I)I -/
noncomputable def f_X2_count (h0 : Nat) (x1 : Int32) (σ : mm_M) : Option (Int32) :=
  if x1 = (0 : Int32) then (
    (gA σ h0 2 0).bind fun q9 =>
    (aI σ q9 0 (1216 : Int32)).bind fun v10 =>
    some v10)
  else (
    if x1 = (1 : Int32) then (
      (gA σ h0 2 0).bind fun q11 =>
      (aI σ q11 0 (1217 : Int32)).bind fun v12 =>
      some v12)
    else (
      if x1 = (2 : Int32) then (
        (ck σ h0 2).bind fun _ =>
        (f_X2_many h0 (0 : Int32) σ).bind fun v13 =>
        some v13)
      else (
        if x1 = (3 : Int32) then (
          (ck σ h0 2).bind fun _ =>
          (f_X2_many h0 (1 : Int32) σ).bind fun v14 =>
          some v14)
        else (
          if x1 = (4 : Int32) then (
            (gA σ h0 2 0).bind fun q15 =>
            (aI σ q15 0 (1218 : Int32)).bind fun v16 =>
            some v16)
          else (
            if x1 = (5 : Int32) then (
              (gA σ h0 2 0).bind fun q17 =>
              (aI σ q17 0 (1219 : Int32)).bind fun v18 =>
              some v18)
            else (
              if x1 = (6 : Int32) then (
                (gA σ h0 2 0).bind fun q19 =>
                (aI σ q19 0 (1220 : Int32)).bind fun v20 =>
                some v20)
              else (
                if x1 = (7 : Int32) then (
                  (gI σ h0 2 5).bind fun v21 =>
                  some v21)
                else (
                  some (-1000002 : Int32)))))))))
/-! IslandHeapModel.mixes(I)V -/
def f_X2_mixes (h0 : Nat) (x1 : Int32) (σ : mm_M) : Option (mm_M) :=
  (gL σ h0 2 17).bind fun w1 =>
  (pF σ h0 2 17 (vL (((31 : Int64) * w1) + x1.toInt64))).bind fun σ2 =>
  some σ2
/-! IslandHeapModel.digest()J -/
noncomputable def g_X2_digest_9 (h0 : Nat) (x1 : Int32)  (σ : mm_M) : Option (((Int32 × mm_M) ⊕ (Int32 × mm_M) ⊕ (Int32 × mm_M) ⊕ (Int32 × Int32 × mm_M) ⊕ (Int32 × Int32 × mm_M) ⊕ (Int32 × mm_M) ⊕ (Int32 × mm_M) ⊕ (Int32 × mm_M)) ⊕ (Int64 × mm_M)) :=
  if (8 : Int32) ≤ x1 then (
    some (.inl (.inr (.inl ((0 : Int32), σ)))))
  else (
    (ck σ h0 2).bind fun _ =>
    (f_X2_count h0 x1 σ).bind fun v2 =>
    (ck σ h0 2).bind fun _ =>
    (f_X2_mixes h0 v2 σ).bind fun σ3 =>
    some (.inl (.inl ((x1 + (1 : Int32)), σ3))))
noncomputable def g_X2_digest_32 (h0 : Nat) (x1 : Int32)  (σ : mm_M) : Option (((Int32 × mm_M) ⊕ (Int32 × mm_M) ⊕ (Int32 × mm_M) ⊕ (Int32 × Int32 × mm_M) ⊕ (Int32 × Int32 × mm_M) ⊕ (Int32 × mm_M) ⊕ (Int32 × mm_M) ⊕ (Int32 × mm_M)) ⊕ (Int64 × mm_M)) :=
  if (10 : Int32) ≤ x1 then (
    (ck σ h0 2).bind fun _ =>
    (f_X2_objectFrom h0 (0 : Int32) σ).bind fun v2 =>
    some (.inl (.inr (.inr (.inl (v2, σ))))))
  else (
    (gA σ h0 2 0).bind fun q3 =>
    (aI σ q3 0 ((1200 : Int32) + x1)).bind fun v4 =>
    (ck σ h0 2).bind fun _ =>
    (f_X2_mixes h0 v4 σ).bind fun σ5 =>
    some (.inl (.inr (.inl ((x1 + (1 : Int32)), σ5)))))
noncomputable def g_X2_digest_64 (h0 : Nat) (x1 : Int32)  (σ : mm_M) : Option (((Int32 × mm_M) ⊕ (Int32 × mm_M) ⊕ (Int32 × mm_M) ⊕ (Int32 × Int32 × mm_M) ⊕ (Int32 × Int32 × mm_M) ⊕ (Int32 × mm_M) ⊕ (Int32 × mm_M) ⊕ (Int32 × mm_M)) ⊕ (Int64 × mm_M)) :=
  if x1 = (-1 : Int32) then (
    some (.inl (.inr (.inr (.inr (.inr (.inr (.inl ((0 : Int32), σ)))))))))
  else (
    some (.inl (.inr (.inr (.inr (.inl (x1, (0 : Int32), σ)))))))
noncomputable def g_X2_digest_71 (h0 : Nat) (x1 : Int32) (x2 : Int32)  (σ : mm_M) : Option (((Int32 × mm_M) ⊕ (Int32 × mm_M) ⊕ (Int32 × mm_M) ⊕ (Int32 × Int32 × mm_M) ⊕ (Int32 × Int32 × mm_M) ⊕ (Int32 × mm_M) ⊕ (Int32 × mm_M) ⊕ (Int32 × mm_M)) ⊕ (Int64 × mm_M)) :=
  if (8 : Int32) ≤ x2 then (
    some (.inl (.inr (.inr (.inr (.inr (.inl (x1, (1 : Int32), σ))))))))
  else (
    (ck σ h0 2).bind fun _ =>
    b2 (f_X2_object h0 x1 x2 σ) fun v2 σ3 =>
    (ck σ3 h0 2).bind fun _ =>
    (f_X2_mixes h0 v2 σ3).bind fun σ4 =>
    some (.inl (.inr (.inr (.inr (.inl (x1, (x2 + (1 : Int32)), σ4)))))))
noncomputable def g_X2_digest_95 (h0 : Nat) (x1 : Int32) (x2 : Int32)  (σ : mm_M) : Option (((Int32 × mm_M) ⊕ (Int32 × mm_M) ⊕ (Int32 × mm_M) ⊕ (Int32 × Int32 × mm_M) ⊕ (Int32 × Int32 × mm_M) ⊕ (Int32 × mm_M) ⊕ (Int32 × mm_M) ⊕ (Int32 × mm_M)) ⊕ (Int64 × mm_M)) :=
  (gA σ h0 2 0).bind fun q1 =>
  (aI σ q1 0 ((0 : Int32) + x1)).bind fun v2 =>
  if v2 ≤ x2 then (
    (ck σ h0 2).bind fun _ =>
    (f_X2_objectFrom h0 (x1 + (1 : Int32)) σ).bind fun v4 =>
    some (.inl (.inr (.inr (.inl (v4, σ))))))
  else (
    (gA σ h0 2 0).bind fun q5 =>
    (aI σ q5 0 (((800 : Int32) + x1) + x2)).bind fun v6 =>
    (ck σ h0 2).bind fun _ =>
    (f_X2_mixes h0 v6 σ).bind fun σ7 =>
    some (.inl (.inr (.inr (.inr (.inr (.inl (x1, (x2 + (1 : Int32)), σ7))))))))
noncomputable def g_X2_digest_142 (h0 : Nat) (x1 : Int32)  (σ : mm_M) : Option (((Int32 × mm_M) ⊕ (Int32 × mm_M) ⊕ (Int32 × mm_M) ⊕ (Int32 × Int32 × mm_M) ⊕ (Int32 × Int32 × mm_M) ⊕ (Int32 × mm_M) ⊕ (Int32 × mm_M) ⊕ (Int32 × mm_M)) ⊕ (Int64 × mm_M)) :=
  if (5 : Int32) ≤ x1 then (
    some (.inl (.inr (.inr (.inr (.inr (.inr (.inr (.inl ((0 : Int32), σ))))))))))
  else (
    (ck σ h0 2).bind fun _ =>
    (f_X2_free h0 x1 σ).bind fun v2 =>
    (ck σ h0 2).bind fun _ =>
    (f_X2_mixes h0 v2 σ).bind fun σ3 =>
    some (.inl (.inr (.inr (.inr (.inr (.inr (.inl ((x1 + (1 : Int32)), σ3)))))))))
noncomputable def g_X2_digest_164 (h0 : Nat) (x1 : Int32)  (σ : mm_M) : Option (((Int32 × mm_M) ⊕ (Int32 × mm_M) ⊕ (Int32 × mm_M) ⊕ (Int32 × Int32 × mm_M) ⊕ (Int32 × Int32 × mm_M) ⊕ (Int32 × mm_M) ⊕ (Int32 × mm_M) ⊕ (Int32 × mm_M)) ⊕ (Int64 × mm_M)) :=
  if (6 : Int32) ≤ x1 then (
    some (.inl (.inr (.inr (.inr (.inr (.inr (.inr (.inr ((0 : Int32), σ))))))))))
  else (
    (gA σ h0 2 0).bind fun q2 =>
    (aI σ q2 0 (1221 : Int32)).bind fun v3 =>
    if v3 = (1 : Int32) then (
      (gA σ h0 2 0).bind fun q5 =>
      (aI σ q5 0 ((1210 : Int32) + x1)).bind fun v6 =>
      (ck σ h0 2).bind fun _ =>
      (f_X2_mixes h0 v6 σ).bind fun σ7 =>
      some (.inl (.inr (.inr (.inr (.inr (.inr (.inr (.inl ((x1 + (1 : Int32)), σ7))))))))))
    else (
      some (.inl (.inr (.inr (.inr (.inr (.inr (.inr (.inr ((0 : Int32), σ)))))))))))
noncomputable def g_X2_digest_204 (h0 : Nat) (x1 : Int32)  (σ : mm_M) : Option (((Int32 × mm_M) ⊕ (Int32 × mm_M) ⊕ (Int32 × mm_M) ⊕ (Int32 × Int32 × mm_M) ⊕ (Int32 × Int32 × mm_M) ⊕ (Int32 × mm_M) ⊕ (Int32 × mm_M) ⊕ (Int32 × mm_M)) ⊕ (Int64 × mm_M)) :=
  (gI σ h0 2 5).bind fun v1 =>
  if v1 ≤ x1 then (
    (gL σ h0 2 17).bind fun w3 =>
    some (.inr (w3, σ)))
  else (
    (gA σ h0 2 4).bind fun q4 =>
    (aI σ q4 0 x1).bind fun v5 =>
    (ck σ h0 2).bind fun _ =>
    (f_X2_mixes h0 v5 σ).bind fun σ6 =>
    some (.inl (.inr (.inr (.inr (.inr (.inr (.inr (.inr ((x1 + (1 : Int32)), σ6))))))))))
noncomputable def g_X2_digest_0 (h0 : Nat)   (σ : mm_M) : Option (((Int32 × mm_M) ⊕ (Int32 × mm_M) ⊕ (Int32 × mm_M) ⊕ (Int32 × Int32 × mm_M) ⊕ (Int32 × Int32 × mm_M) ⊕ (Int32 × mm_M) ⊕ (Int32 × mm_M) ⊕ (Int32 × mm_M)) ⊕ (Int64 × mm_M)) :=
  (pF σ h0 2 17 (vL (47 : Int64))).bind fun σ1 =>
  some (.inl (.inl ((0 : Int32), σ1)))
noncomputable def s_X2_digest (h0 : Nat) : (Int32 × mm_M) ⊕ (Int32 × mm_M) ⊕ (Int32 × mm_M) ⊕ (Int32 × Int32 × mm_M) ⊕ (Int32 × Int32 × mm_M) ⊕ (Int32 × mm_M) ⊕ (Int32 × mm_M) ⊕ (Int32 × mm_M) → Option (((Int32 × mm_M) ⊕ (Int32 × mm_M) ⊕ (Int32 × mm_M) ⊕ (Int32 × Int32 × mm_M) ⊕ (Int32 × Int32 × mm_M) ⊕ (Int32 × mm_M) ⊕ (Int32 × mm_M) ⊕ (Int32 × mm_M)) ⊕ (Int64 × mm_M)) := fun s => match s with
  | (.inl s) => g_X2_digest_9 h0 s.1 s.2
  | (.inr (.inl s)) => g_X2_digest_32 h0 s.1 s.2
  | (.inr (.inr (.inl s))) => g_X2_digest_64 h0 s.1 s.2
  | (.inr (.inr (.inr (.inl s)))) => g_X2_digest_71 h0 s.1 s.2.1 s.2.2
  | (.inr (.inr (.inr (.inr (.inl s))))) => g_X2_digest_95 h0 s.1 s.2.1 s.2.2
  | (.inr (.inr (.inr (.inr (.inr (.inl s)))))) => g_X2_digest_142 h0 s.1 s.2
  | (.inr (.inr (.inr (.inr (.inr (.inr (.inl s))))))) => g_X2_digest_164 h0 s.1 s.2
  | (.inr (.inr (.inr (.inr (.inr (.inr (.inr s))))))) => g_X2_digest_204 h0 s.1 s.2
noncomputable def f_X2_digest (h0 : Nat) (σ : mm_M) : Option (Int64 × mm_M) := lgo (s_X2_digest h0) (g_X2_digest_0 h0 σ)
