/-! THE PURE MEMORY: cells by addresses; a method is a function over it. NAMES: mm_ -/
set_option maxRecDepth 100000
/-- a value of a field: an int, a reference, a long -/
abbrev mm_V : Type := Int32 ⊕ ((Option Nat) ⊕ Int64)
/-- a cell: an object (class, fields), an array of ints (kind, length, contents), an array of references -/
abbrev mm_E : Type := (Nat × List mm_V) ⊕ ((Nat × Nat × (Nat → Int32)) ⊕ (Nat × Nat × (Nat → Option Nat)))
/-- the memory: what stands at an address; the next free address; where the lists' common empty array stands, and what two statics of Throwable hold -/
abbrev mm_M : Type := (Nat → Option mm_E) × Nat × (Nat × Option Nat × Option Nat)
abbrev vI (x : Int32) : mm_V := .inl x
abbrev vR (r : Option Nat) : mm_V := .inr (.inl r)
abbrev vL (z : Int64) : mm_V := .inr (.inr z)
abbrev eO (c : Nat) (fs : List mm_V) : mm_E := .inl (c, fs)
abbrev eI (k n : Nat) (g : Nat → Int32) : mm_E := .inr (.inl (k, n, g))
abbrev eR (k n : Nat) (g : Nat → Option Nat) : mm_E := .inr (.inr (k, n, g))
def gF (σ : mm_M) (a c k : Nat) : Option mm_V := match σ.1 a with
  | some (.inl o) => if o.1 = c then o.2[k]? else none
  | _ => none
def gI (σ : mm_M) (a c k : Nat) : Option Int32 := match gF σ a c k with
  | some (.inl x) => some x
  | _ => none
def gR (σ : mm_M) (a c k : Nat) : Option (Option Nat) := match gF σ a c k with
  | some (.inr (.inl r)) => some r
  | _ => none
def gA (σ : mm_M) (a c k : Nat) : Option Nat := match gF σ a c k with
  | some (.inr (.inl r)) => r
  | _ => none
def gL (σ : mm_M) (a c k : Nat) : Option Int64 := match gF σ a c k with
  | some (.inr (.inr z)) => some z
  | _ => none
/-- the cell at a is e -/
def sE (σ : mm_M) (a : Nat) (e : mm_E) : mm_M := (fun b => if b = a then some e else σ.1 b, σ.2)
/-- a new cell -/
def nE (σ : mm_M) (e : mm_E) : mm_M := (fun b => if b = σ.2.1 then some e else σ.1 b, σ.2.1 + 1, σ.2.2)
def pF (σ : mm_M) (a c k : Nat) (v : mm_V) : Option mm_M := match σ.1 a with
  | some (.inl o) => if o.1 = c ∧ k < o.2.length then some (sE σ a (.inl (o.1, o.2.set k v))) else none
  | _ => none
/-- a boolean field -/
def pZ (σ : mm_M) (a c k : Nat) (x : Int32) : Option mm_M := if x = 0 ∨ x = 1 then pF σ a c k (.inl x) else none
def ck (σ : mm_M) (a c : Nat) : Option Unit := match σ.1 a with
  | some (.inl o) => if o.1 = c then some () else none
  | _ => none
def aI (σ : mm_M) (a k : Nat) (i : Int32) : Option Int32 := match σ.1 a with
  | some (.inr (.inl t)) => if t.1 = k ∧ 0 ≤ i.toInt ∧ i.toInt < t.2.1 then some (t.2.2 i.toNatClampNeg) else none
  | _ => none
def aR (σ : mm_M) (a k : Nat) (i : Int32) : Option (Option Nat) := match σ.1 a with
  | some (.inr (.inr t)) => if t.1 = k ∧ 0 ≤ i.toInt ∧ i.toInt < t.2.1 then some (t.2.2 i.toNatClampNeg) else none
  | _ => none
def aN (σ : mm_M) (a : Nat) : Option Int32 := match σ.1 a with
  | some (.inr (.inl t)) => if t.1 < 3 then some (Int32.ofNat t.2.1) else none
  | some (.inr (.inr t)) => if 3 ≤ t.1 ∧ t.1 < 6 then some (Int32.ofNat t.2.1) else none
  | _ => none
def mm_nar (k : Nat) (x : Int32) : Int32 := if k = 0 then x else if k = 1 then vp_nar .boolean x else vp_nar .byte x
def sI (σ : mm_M) (a k : Nat) (i x : Int32) : Option mm_M := match σ.1 a with
  | some (.inr (.inl t)) => if t.1 = k ∧ 0 ≤ i.toInt ∧ i.toInt < t.2.1 then some (sE σ a (.inr (.inl (t.1, t.2.1, upd t.2.2 i.toNatClampNeg (mm_nar k x))))) else none
  | _ => none
/-- may r stand in an array of kind k: 3 things, 4 heaps, 5 objects (of them things and commands) -/
def okR (σ : mm_M) (k : Nat) (r : Option Nat) : Bool := match r with
  | none => true
  | some y => match σ.1 y with
    | some (.inl o) => (k == 3 && o.1 == 3) || (k == 4 && o.1 == 1) || (k == 5 && (o.1 == 3 || (9 ≤ o.1 && o.1 ≤ 14)))
    | _ => false
def sR (σ : mm_M) (a k : Nat) (i : Int32) (r : Option Nat) : Option mm_M := match σ.1 a with
  | some (.inr (.inr t)) => if t.1 = k ∧ 0 ≤ i.toInt ∧ i.toInt < t.2.1 ∧ okR σ k r = true then some (sE σ a (.inr (.inr (t.1, t.2.1, va_up t.2.2 i.toNatClampNeg r)))) else none
  | _ => none
/-- a new object -/
def nO (σ : mm_M) (c : Nat) (fs : List mm_V) : Option (Nat × mm_M) := some (σ.2.1, nE σ (.inl (c, fs)))
/-- a new array of ints of at most lim places; of references -/
def nA (σ : mm_M) (k : Nat) (n : Int32) (lim : Nat) : Option (Nat × mm_M) := if 0 ≤ n.toInt ∧ n.toInt ≤ lim then some (σ.2.1, nE σ (.inr (.inl (k, n.toNatClampNeg, fun _ => 0)))) else none
def nQ (σ : mm_M) (k : Nat) (n : Int32) (lim : Nat) : Option (Nat × mm_M) := if 0 ≤ n.toInt ∧ n.toInt ≤ lim then some (σ.2.1, nE σ (.inr (.inr (k, n.toNatClampNeg, fun _ => none)))) else none
/-- System.arraycopy: of ints, of references -/
def cI (σ : mm_M) (a0 : Nat) (sp : Int32) (a : Nat) (dp n : Int32) : Option mm_M := match σ.1 a0, σ.1 a with
  | some (.inr (.inl t)), some (.inr (.inl u)) => if t.1 = 0 ∧ u.1 = 0 ∧ 0 ≤ sp.toInt ∧ 0 ≤ dp.toInt ∧ 0 ≤ n.toInt ∧ sp.toInt + n.toInt ≤ t.2.1 ∧ dp.toInt + n.toInt ≤ u.2.1 then some (sE σ a (.inr (.inl (u.1, u.2.1, va_cpy t.2.2 u.2.2 sp.toNatClampNeg dp.toNatClampNeg n.toNatClampNeg)))) else none
  | _, _ => none
def cR (σ : mm_M) (a0 : Nat) (sp : Int32) (a : Nat) (dp n : Int32) : Option mm_M := match σ.1 a0, σ.1 a with
  | some (.inr (.inr t)), some (.inr (.inr u)) => if t.1 = 5 ∧ u.1 = 5 ∧ 0 < t.2.1 ∧ 0 < u.2.1 ∧ 0 ≤ sp.toInt ∧ 0 ≤ dp.toInt ∧ 0 ≤ n.toInt ∧ sp.toInt + n.toInt ≤ t.2.1 ∧ dp.toInt + n.toInt ≤ u.2.1 ∧ (List.range n.toNatClampNeg).all (fun i => okR σ 5 (t.2.2 (sp.toNatClampNeg + i))) = true then some (sE σ a (.inr (.inr (u.1, u.2.1, va_cpy t.2.2 u.2.2 sp.toNatClampNeg dp.toNatClampNeg n.toNatClampNeg)))) else none
  | _, _ => none
/-- a pair of an answer and a memory goes on -/
def b2 {α β : Type} (x : Option (α × mm_M)) (k : α → mm_M → Option β) : Option β := x.bind (fun p => k p.1 p.2)
theorem b2_s {α β : Type} (a : α) (σ : mm_M) (k : α → mm_M → Option β) : b2 (some (a, σ)) k = k a σ := rfl
theorem b2_i {α β : Type} {x : Option (α × mm_M)} {k : α → mm_M → Option β} {y : β} (h : b2 x k = some y) : ∃ a σ, x = some (a, σ) ∧ k a σ = some y := by
  cases x with
  | none => cases h
  | some p => exact ⟨p.1, p.2, rfl, h⟩
theorem b1_i {α β : Type} {x : Option α} {k : α → Option β} {y : β} (h : x.bind k = some y) : ∃ a, x = some a ∧ k a = some y := by
  cases x with
  | none => cases h
  | some p => exact ⟨p, rfl, h⟩
/-- a guard -/
def grd (c : Prop) [Decidable c] : Option Unit := if c then some () else none
theorem grd_i {c : Prop} [Decidable c] {u : Unit} (h : grd c = some u) : c := by
  unfold grd at h
  split at h
  · assumption
  · cases h
theorem grd_s {c : Prop} [Decidable c] (h : c) : grd c = some () := by unfold grd; rw [if_pos h]
/-- loops: a step gives the next state or the answer -/
def itn {S R : Type} (f : S → Option (S ⊕ R)) : Nat → S → Option R
  | 0, _ => none
  | n + 1, s => match f s with
    | none => none
    | some (.inl s') => itn f n s'
    | some (.inr r) => some r
def evn {S R : Type} (f : S → Option (S ⊕ R)) (n : Nat) (x : Option (S ⊕ R)) : Option R := match x with
  | none => none
  | some (.inl s') => itn f n s'
  | some (.inr r) => some r
theorem itn_s {S R : Type} (f : S → Option (S ⊕ R)) (n : Nat) (s : S) : itn f (n + 1) s = evn f n (f s) := by
  unfold itn evn
  rfl
theorem evn_l {S R : Type} {f : S → Option (S ⊕ R)} {n : Nat} (s : S) : evn f n (some (.inl s)) = itn f n s := rfl
theorem evn_r {S R : Type} {f : S → Option (S ⊕ R)} {n : Nat} (r : R) : evn f n (some (.inr r)) = some r := rfl
theorem evn_b1 {S R α : Type} {f : S → Option (S ⊕ R)} {n : Nat} {x : Option α} {k : α → Option (S ⊕ R)} {y : R} (h : evn f n (x.bind k) = some y) : ∃ a, x = some a ∧ evn f n (k a) = some y := by
  cases x with
  | none => cases h
  | some p => exact ⟨p, rfl, h⟩
theorem evn_b2 {S R α : Type} {f : S → Option (S ⊕ R)} {n : Nat} {x : Option (α × mm_M)} {k : α → mm_M → Option (S ⊕ R)} {y : R} (h : evn f n (b2 x k) = some y) : ∃ a σ, x = some (a, σ) ∧ evn f n (k a σ) = some y := by
  cases x with
  | none => cases h
  | some p => exact ⟨p.1, p.2, rfl, h⟩
theorem evn_0 {S R : Type} {f : S → Option (S ⊕ R)} {s : S} {r : R} (h : itn f 0 s = some r) : False := by cases h
theorem itn_mono {S R : Type} {f : S → Option (S ⊕ R)} {r : R} : ∀ (n : Nat) (s : S), itn f n s = some r → ∀ m, n ≤ m → itn f m s = some r := by
  intro n
  induction n with
  | zero => intro s h; cases h
  | succ n ih =>
    intro s h m hm
    cases m with
    | zero => omega
    | succ m =>
      rw [itn_s] at h ⊢
      cases hf : f s with
      | none => rw [hf] at h; cases h
      | some z =>
        rw [hf] at h
        cases z with
        | inl s' => exact ih s' h m (by omega)
        | inr r' => exact h
noncomputable def lpx {S R : Type} (f : S → Option (S ⊕ R)) (s : S) : Option R := @dite _ (∃ n r, itn f n s = some r) (Classical.propDecidable _) (fun h => itn f h.choose s) (fun _ => none)
theorem lpx_of {S R : Type} {f : S → Option (S ⊕ R)} {s : S} {n : Nat} {r : R} (h : itn f n s = some r) : lpx f s = some r := by
  have hx : ∃ n r, itn f n s = some r := ⟨n, r, h⟩
  unfold lpx
  rw [dif_pos hx]
  obtain ⟨r', hr'⟩ := hx.choose_spec
  have h1 := itn_mono _ _ hr' (hx.choose + n) (by omega)
  have h2 := itn_mono _ _ h (hx.choose + n) (by omega)
  rw [hr', ← h1, h2]
theorem lpx_i {S R : Type} {f : S → Option (S ⊕ R)} {s : S} {r : R} (h : lpx f s = some r) : ∃ n, itn f n s = some r := by
  unfold lpx at h
  by_cases hx : ∃ n r, itn f n s = some r
  · rw [dif_pos hx] at h
    exact ⟨_, h⟩
  · rw [dif_neg hx] at h
    cases h
theorem lpx_n {S R : Type} {f : S → Option (S ⊕ R)} {s s' : S} (h : f s = some (.inl s')) : lpx f s = lpx f s' := by
  have key : ∀ r, lpx f s = some r ↔ lpx f s' = some r := by
    intro r
    constructor
    · intro q
      obtain ⟨n, hn⟩ := lpx_i q
      cases n with
      | zero => cases hn
      | succ n =>
        rw [itn_s, h] at hn
        exact lpx_of hn
    · intro q
      obtain ⟨n, hn⟩ := lpx_i q
      refine lpx_of (n := n + 1) ?_
      rw [itn_s, h]
      exact hn
  cases hs : lpx f s with
  | some r => exact ((key r).mp hs).symm
  | none =>
    cases hs' : lpx f s' with
    | none => rfl
    | some r => rw [(key r).mpr hs'] at hs; cases hs
theorem lpx_d {S R : Type} {f : S → Option (S ⊕ R)} {s : S} {r : R} (h : f s = some (.inr r)) : lpx f s = some r := by
  refine lpx_of (n := 1) ?_
  rw [itn_s, h]
  rfl
/-- an entry: what it gives, then the loop -/
noncomputable def lgo {S R : Type} (f : S → Option (S ⊕ R)) (x : Option (S ⊕ R)) : Option R := match x with
  | none => none
  | some (.inl s') => lpx f s'
  | some (.inr r) => some r
theorem lgo_l {S R : Type} {f : S → Option (S ⊕ R)} (s : S) : lgo f (some (.inl s)) = lpx f s := rfl
theorem lgo_r {S R : Type} {f : S → Option (S ⊕ R)} (r : R) : lgo f (some (.inr r)) = some r := rfl
theorem lgo_i {S R : Type} {f : S → Option (S ⊕ R)} {x : Option (S ⊕ R)} {r : R} (h : lgo f x = some r) : ∃ n, evn f n x = some r := by
  cases x with
  | none => cases h
  | some z =>
    cases z with
    | inl s => exact lpx_i h
    | inr r' => exact ⟨0, h⟩
theorem lpx_g {S R : Type} {f : S → Option (S ⊕ R)} {s : S} : lpx f s = lgo f (f s) := by
  cases h : f s with
  | none =>
    cases hs : lpx f s with
    | none => rfl
    | some r =>
      obtain ⟨n, hn⟩ := lpx_i hs
      cases n with
      | zero => cases hn
      | succ n => rw [itn_s, h] at hn; cases hn
  | some z =>
    cases z with
    | inl s' => exact lpx_n h
    | inr r => exact lpx_d h
/-- the rule of loops -/
theorem lpx_rule {S R : Type} (f : S → Option (S ⊕ R)) (I : S → Prop) (μ : S → Nat) (Q : R → Prop) (h : ∀ s, I s → (∃ r, f s = some (.inr r) ∧ Q r) ∨ ∃ s', f s = some (.inl s') ∧ I s' ∧ μ s' < μ s) : ∀ s, I s → ∃ r, lpx f s = some r ∧ Q r := by
  have key : ∀ (n : Nat) (s : S), μ s < n → I s → ∃ r, lpx f s = some r ∧ Q r := by
    intro n
    induction n with
    | zero => intro s hs; omega
    | succ n ih =>
      intro s hs hI
      rcases h s hI with ⟨r, h1, h2⟩ | ⟨s', h1, h2, h3⟩
      · exact ⟨r, lpx_d h1, h2⟩
      · obtain ⟨r, q1, q2⟩ := ih s' (by omega) h2
        exact ⟨r, by rw [lpx_n h1]; exact q1, q2⟩
  exact fun s => key (μ s + 1) s (by omega)
/-! what an operation that succeeds says -/
theorem gF_i {σ : mm_M} {a c k : Nat} {v : mm_V} (h : gF σ a c k = some v) : ∃ fs, σ.1 a = some (.inl (c, fs)) ∧ fs[k]? = some v := by
  unfold gF at h
  split at h
  · rename_i o ho
    split at h
    · rename_i hc
      exact ⟨o.2, by rw [ho, ← hc], h⟩
    · cases h
  · cases h
theorem gI_i {σ : mm_M} {a c k : Nat} {x : Int32} (h : gI σ a c k = some x) : gF σ a c k = some (.inl x) := by
  unfold gI at h
  split at h
  · rename_i y hy
    cases h
    exact hy
  · cases h
theorem gR_i {σ : mm_M} {a c k : Nat} {r : Option Nat} (h : gR σ a c k = some r) : gF σ a c k = some (.inr (.inl r)) := by
  unfold gR at h
  split at h
  · rename_i y hy
    cases h
    exact hy
  · cases h
theorem gA_i {σ : mm_M} {a c k : Nat} {r : Nat} (h : gA σ a c k = some r) : gF σ a c k = some (.inr (.inl (some r))) := by
  unfold gA at h
  split at h
  · rename_i y hy
    rw [h] at hy
    exact hy
  · cases h
theorem gL_i {σ : mm_M} {a c k : Nat} {z : Int64} (h : gL σ a c k = some z) : gF σ a c k = some (.inr (.inr z)) := by
  unfold gL at h
  split at h
  · rename_i y hy
    cases h
    exact hy
  · cases h
theorem pF_i {σ σ' : mm_M} {a c k : Nat} {v : mm_V} (h : pF σ a c k v = some σ') : ∃ fs, σ.1 a = some (.inl (c, fs)) ∧ k < fs.length ∧ σ' = sE σ a (.inl (c, fs.set k v)) := by
  unfold pF at h
  split at h
  · rename_i o ho
    split at h
    · rename_i hc
      cases h
      exact ⟨o.2, by rw [ho, ← hc.1], hc.2, by rw [← hc.1]⟩
    · cases h
  · cases h
theorem pZ_i {σ σ' : mm_M} {a c k : Nat} {x : Int32} (h : pZ σ a c k x = some σ') : (x = 0 ∨ x = 1) ∧ pF σ a c k (.inl x) = some σ' := by
  unfold pZ at h
  split at h
  · rename_i hx
    exact ⟨hx, h⟩
  · cases h
theorem ck_i {σ : mm_M} {a c : Nat} {u : Unit} (h : ck σ a c = some u) : ∃ fs, σ.1 a = some (.inl (c, fs)) := by
  unfold ck at h
  split at h
  · rename_i o ho
    split at h
    · rename_i hc
      exact ⟨o.2, by rw [ho, ← hc]⟩
    · cases h
  · cases h
theorem mm_in {i : Int32} {n : Nat} (h : 0 ≤ i.toInt ∧ i.toInt < n) : vp_in i n := vp_in_iff.mpr h
theorem aI_i {σ : mm_M} {a k : Nat} {i x : Int32} (h : aI σ a k i = some x) : ∃ n g, σ.1 a = some (.inr (.inl (k, n, g))) ∧ vp_in i n ∧ g i.toNatClampNeg = x := by
  unfold aI at h
  split at h
  · rename_i t ht
    split at h
    · rename_i hc
      exact ⟨t.2.1, t.2.2, by rw [ht, ← hc.1], mm_in hc.2, Option.some.inj h⟩
    · cases h
  · cases h
theorem aR_i {σ : mm_M} {a k : Nat} {i : Int32} {r : Option Nat} (h : aR σ a k i = some r) : ∃ n g, σ.1 a = some (.inr (.inr (k, n, g))) ∧ vp_in i n ∧ g i.toNatClampNeg = r := by
  unfold aR at h
  split at h
  · rename_i t ht
    split at h
    · rename_i hc
      exact ⟨t.2.1, t.2.2, by rw [ht, ← hc.1], mm_in hc.2, Option.some.inj h⟩
    · cases h
  · cases h
theorem sI_i {σ σ' : mm_M} {a k : Nat} {i x : Int32} (h : sI σ a k i x = some σ') : ∃ n g, σ.1 a = some (.inr (.inl (k, n, g))) ∧ vp_in i n ∧ σ' = sE σ a (.inr (.inl (k, n, upd g i.toNatClampNeg (mm_nar k x)))) := by
  unfold sI at h
  split at h
  · rename_i t ht
    split at h
    · rename_i hc
      cases h
      exact ⟨t.2.1, t.2.2, by rw [ht, ← hc.1], mm_in hc.2, by rw [hc.1]⟩
    · cases h
  · cases h
theorem sR_i {σ σ' : mm_M} {a k : Nat} {i : Int32} {r : Option Nat} (h : sR σ a k i r = some σ') : ∃ n g, σ.1 a = some (.inr (.inr (k, n, g))) ∧ vp_in i n ∧ okR σ k r = true ∧ σ' = sE σ a (.inr (.inr (k, n, va_up g i.toNatClampNeg r))) := by
  unfold sR at h
  split at h
  · rename_i t ht
    split at h
    · rename_i hc
      cases h
      exact ⟨t.2.1, t.2.2, by rw [ht, ← hc.1], mm_in ⟨hc.2.1, hc.2.2.1⟩, hc.2.2.2, by rw [hc.1]⟩
    · cases h
  · cases h
theorem nO_i {σ σ' : mm_M} {c q : Nat} {fs : List mm_V} (h : nO σ c fs = some (q, σ')) : q = σ.2.1 ∧ σ' = nE σ (.inl (c, fs)) := by
  unfold nO at h
  cases h
  exact ⟨rfl, rfl⟩
theorem nA_i {σ σ' : mm_M} {k q lim : Nat} {n : Int32} (h : nA σ k n lim = some (q, σ')) : (0 ≤ n.toInt ∧ n.toInt ≤ lim) ∧ q = σ.2.1 ∧ σ' = nE σ (.inr (.inl (k, n.toNatClampNeg, fun _ => 0))) := by
  unfold nA at h
  split at h
  · rename_i hc
    cases h
    exact ⟨hc, rfl, rfl⟩
  · cases h
theorem nQ_i {σ σ' : mm_M} {k q lim : Nat} {n : Int32} (h : nQ σ k n lim = some (q, σ')) : (0 ≤ n.toInt ∧ n.toInt ≤ lim) ∧ q = σ.2.1 ∧ σ' = nE σ (.inr (.inr (k, n.toNatClampNeg, fun _ => none))) := by
  unfold nQ at h
  split at h
  · rename_i hc
    cases h
    exact ⟨hc, rfl, rfl⟩
  · cases h
theorem cI_i {σ σ' : mm_M} {a0 a : Nat} {sp dp n : Int32} (h : cI σ a0 sp a dp n = some σ') : ∃ n0 f n1 g, σ.1 a0 = some (.inr (.inl (0, n0, f))) ∧ σ.1 a = some (.inr (.inl (0, n1, g))) ∧ 0 ≤ sp.toInt ∧ 0 ≤ dp.toInt ∧ 0 ≤ n.toInt ∧ sp.toInt + n.toInt ≤ n0 ∧ dp.toInt + n.toInt ≤ n1 ∧ σ' = sE σ a (.inr (.inl (0, n1, va_cpy f g sp.toNatClampNeg dp.toNatClampNeg n.toNatClampNeg))) := by
  unfold cI at h
  split at h
  · rename_i t u ht hu
    split at h
    · rename_i hc
      obtain ⟨c1, c2, c3, c4, c5, c6, c7⟩ := hc
      cases h
      exact ⟨t.2.1, t.2.2, u.2.1, u.2.2, by rw [ht, ← c1], by rw [hu, ← c2], c3, c4, c5, c6, c7, by rw [c2]⟩
    · cases h
  · cases h
theorem cR_i {σ σ' : mm_M} {a0 a : Nat} {sp dp n : Int32} (h : cR σ a0 sp a dp n = some σ') : ∃ n0 f n1 g, σ.1 a0 = some (.inr (.inr (5, n0, f))) ∧ σ.1 a = some (.inr (.inr (5, n1, g))) ∧ 0 < n0 ∧ 0 < n1 ∧ 0 ≤ sp.toInt ∧ 0 ≤ dp.toInt ∧ 0 ≤ n.toInt ∧ sp.toInt + n.toInt ≤ n0 ∧ dp.toInt + n.toInt ≤ n1 ∧ (∀ i, i < n.toNatClampNeg → okR σ 5 (f (sp.toNatClampNeg + i)) = true) ∧ σ' = sE σ a (.inr (.inr (5, n1, va_cpy f g sp.toNatClampNeg dp.toNatClampNeg n.toNatClampNeg))) := by
  unfold cR at h
  split at h
  · rename_i t u ht hu
    split at h
    · rename_i hc
      obtain ⟨c1, c2, c0, c3, c4, c5, c6, c7, c8, c9⟩ := hc
      cases h
      exact ⟨t.2.1, t.2.2, u.2.1, u.2.2, by rw [ht, ← c1], by rw [hu, ← c2], c0, c3, c4, c5, c6, c7, c8, fun i hi => List.all_eq_true.mp c9 i (List.mem_range.mpr hi), by rw [c2]⟩
    · cases h
  · cases h
theorem aN_i {σ : mm_M} {a : Nat} {x : Int32} (h : aN σ a = some x) : (∃ k n g, k < 3 ∧ σ.1 a = some (.inr (.inl (k, n, g))) ∧ Int32.ofNat n = x) ∨ ∃ k n g, (3 ≤ k ∧ k < 6) ∧ σ.1 a = some (.inr (.inr (k, n, g))) ∧ Int32.ofNat n = x := by
  unfold aN at h
  split at h
  · rename_i t ht
    split at h
    · rename_i hc
      exact Or.inl ⟨t.1, t.2.1, t.2.2, hc, ht, Option.some.inj h⟩
    · cases h
  · rename_i t ht
    split at h
    · rename_i hc
      exact Or.inr ⟨t.1, t.2.1, t.2.2, hc, ht, Option.some.inj h⟩
    · cases h
  · cases h
/-- a reference that may be null -/
def mt {α β : Type} (r : Option α) (A : Option β) (B : α → Option β) : Option β := match r with
  | none => A
  | some a => B a
theorem mt_n {α β : Type} {A : Option β} {B : α → Option β} : mt none A B = A := rfl
theorem mt_s {α β : Type} {a : α} {A : Option β} {B : α → Option β} : mt (some a) A B = B a := rfl
/-- an array of objects; a command -/
def ckQ (σ : mm_M) (a : Nat) : Option Unit := match σ.1 a with
  | some (.inr (.inr t)) => if t.1 = 5 ∧ 0 < t.2.1 then some () else none
  | _ => none
def ckC (σ : mm_M) (a : Nat) : Option Unit := match σ.1 a with
  | some (.inl o) => if 9 ≤ o.1 ∧ o.1 ≤ 14 then some () else none
  | _ => none
theorem ckQ_i {σ : mm_M} {a : Nat} {u : Unit} (h : ckQ σ a = some u) : ∃ n g, n ≠ 0 ∧ σ.1 a = some (.inr (.inr (5, n, g))) := by
  unfold ckQ at h
  split at h
  · rename_i t ht
    split at h
    · rename_i hc
      exact ⟨t.2.1, t.2.2, by omega, by rw [ht, ← hc.1]⟩
    · cases h
  · cases h
theorem ckC_i {σ : mm_M} {a : Nat} {u : Unit} (h : ckC σ a = some u) : ∃ k fs, (9 ≤ k ∧ k ≤ 14) ∧ σ.1 a = some (.inl (k, fs)) := by
  unfold ckC at h
  split at h
  · rename_i o ho
    split at h
    · rename_i hc
      exact ⟨o.1, o.2, hc, ho⟩
    · cases h
  · cases h
