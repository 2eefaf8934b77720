/-! PLAIN LAW: a list by itself. NAMES: LS9 -/
set_option maxRecDepth 100000
/-- a list at l with n elements; its cells lie in Z -/
def LS9 (l : Nat) (n : Int) (el : Nat → Option Nat) (Z : Nat → Prop) (μ : mm_M) : Prop := ∃ (D : Nat → Int × Int) (G : Int → Int → Nat) (adk : Int → Int) (nfk : Int → Int) (ndk : Int → Int) (pnk : Int → Int) (agk : Int → Int) (mkk : Int → Int) (flk : Int → Int → Int) (dtk : Int → Int → Int) (hwk : Int) (dpk : Int) (alk : Int) (cok : Int) (fek : Int) (rpk : Option Nat) (rok : Int → Int) (wek : Int → Int) (plk : Int → Int) (mok : Int32) (eak : Nat) (lnk : Int) (cpk : Nat) (elk : Nat → Option Nat) (owk : Nat → Option Nat) (skk : Nat → Option Nat) (txk : Int → Int) (tlk : Int) (rfk : Int) (slk : Nat → Option Nat) (hsk : Int64), (LU D G ∧ G 3 0 = l ∧ HLD D (cel G adk nfk ndk pnk agk mkk flk dtk hwk dpk alk cok fek rpk rok wek plk mok eak n cpk el owk skk txk tlk rfk slk hsk) μ) ∧ (DB D μ ∧ CAPS cpk ∧ (cpk = 0 → eak = μ.2.2.1) ∧ (0 < cpk → eak = G 3 2 ∧ GU D G 3 2)) ∧ (0 ≤ n ∧ n ≤ cpk ∧ cpk ≤ 250) ∧ (∀ b, (D b).1 ≠ -1 → Z b)
section T1
variable {l : Nat} {n : Int} {el : Nat → Option Nat} {Z Z' : Nat → Prop} {μ μ' : mm_M}
theorem LS9.size (h : LS9 l n el Z μ) : f_J2_size l μ = some (J n) := by
  obtain ⟨D, G, adk, nfk, ndk, pnk, agk, mkk, flk, dtk, hwk, dpk, alk, cok, fek, rpk, rok, wek, plk, mok, eak, lnk, cpk, elk, owk, skk, txk, tlk, rfk, slk, hsk, ⟨a1, a2, a3⟩, -⟩ := h
  rw [a3.eq, ← a2]
  exact kl_size a1
theorem LS9.ck (h : LS9 l n el Z μ) : ck μ l 15 = some () := by
  obtain ⟨D, G, adk, nfk, ndk, pnk, agk, mkk, flk, dtk, hwk, dpk, alk, cok, fek, rpk, rok, wek, plk, mok, eak, lnk, cpk, elk, owk, skk, txk, tlk, rfk, slk, hsk, ⟨a1, a2, a3⟩, -⟩ := h
  rw [a3.eq, ← a2]
  exact cw_k0 a1
theorem LS9.get (h : LS9 l n el Z μ) {k : Int} {q : Nat} (h1 : 0 ≤ k) (h2 : k < n) (h3 : el k.toNat = some q) : f_J2_get l (J k) μ = some (some q) := by
  obtain ⟨D, G, adk, nfk, ndk, pnk, agk, mkk, flk, dtk, hwk, dpk, alk, cok, fek, rpk, rok, wek, plk, mok, eak, lnk, cpk, elk, owk, skk, txk, tlk, rfk, slk, hsk, ⟨a1, a2, a3⟩, ⟨-, -, -, b4⟩, ⟨c1, c2, c3⟩, -⟩ := h
  obtain ⟨e1, e2⟩ := b4 (by omega)
  rw [a3.eq, ← a2]
  exact kl_get a1 h1 h2 c2 c3 e1 e2 h3
theorem LS9.mono (h : LS9 l n el Z μ) (h1 : ∀ b, Z b → b < μ.2.1 → μ'.1 b = μ.1 b) (h2 : μ.2.1 ≤ μ'.2.1) (h3 : μ'.2.2 = μ.2.2) : LS9 l n el Z μ' := by
  obtain ⟨D, G, adk, nfk, ndk, pnk, agk, mkk, flk, dtk, hwk, dpk, alk, cok, fek, rpk, rok, wek, plk, mok, eak, lnk, cpk, elk, owk, skk, txk, tlk, rfk, slk, hsk, ⟨a1, a2, a3⟩, ⟨b1, b2, b3, b4⟩, c, d⟩ := h
  exact ⟨D, G, adk, nfk, ndk, pnk, agk, mkk, flk, dtk, hwk, dpk, alk, cok, fek, rpk, rok, wek, plk, mok, eak, lnk, cpk, elk, owk, skk, txk, tlk, rfk, slk, hsk, ⟨a1, a2, fun b hb => by rw [h1 b (d b hb) (b1 b hb)]; exact a3 b hb⟩, ⟨fun b hb => Nat.lt_of_lt_of_le (b1 b hb) h2, b2, by rw [h3]; exact b3, b4⟩, c, d⟩
theorem LS9.wide (h : LS9 l n el Z μ) (h1 : ∀ b, Z b → Z' b) : LS9 l n el Z' μ := by
  obtain ⟨D, G, adk, nfk, ndk, pnk, agk, mkk, flk, dtk, hwk, dpk, alk, cok, fek, rpk, rok, wek, plk, mok, eak, lnk, cpk, elk, owk, skk, txk, tlk, rfk, slk, hsk, a, b, c, d⟩ := h
  exact ⟨D, G, adk, nfk, ndk, pnk, agk, mkk, flk, dtk, hwk, dpk, alk, cok, fek, rpk, rok, wek, plk, mok, eak, lnk, cpk, elk, owk, skk, txk, tlk, rfk, slk, hsk, a, b, c, fun x hx => h1 x (d x hx)⟩
theorem LS9.fresh (h : μ.1 l = some (.inl (15, [vI (J 0), vR (some μ.2.2.1), vI (J 0)]))) (hl : l < μ.2.1) : LS9 l 0 (fun _ => none) (fun b => b = l) μ := by
  have hd : ∀ b, ((fun b : Nat => if b = l then ((3, 0) : Int × Int) else (-1, 0)) b).1 ≠ -1 → b = l := fun b hb => by
    by_cases q : b = l
    · exact q
    · dsimp only at hb
      rw [if_neg q] at hb
      exact absurd rfl hb
  refine ⟨fun b => if b = l then (3, 0) else (-1, 0), fun k a => if k = 3 ∧ a = 0 then l else 0, fun _ => 0, fun _ => 0, fun _ => 0, fun _ => 0, fun _ => 0, fun _ => 0, fun _ _ => 0, fun _ _ => 0, 0, 0, 0, 0, 0, none, fun _ => 0, fun _ => 0, fun _ => 0, J 0, μ.2.2.1, 0, 0, fun _ => none, fun _ => none, fun _ => none, fun _ => 0, 0, 0, fun _ => none, 0, ⟨⟨fun b hb => ?_, ?_⟩, by simp, fun b hb => ?_⟩, ⟨fun b hb => ?_, Or.inl rfl, fun _ => rfl, fun q => absurd q (by omega)⟩, ⟨by omega, by omega, by omega⟩, hd⟩
  · rw [hd b hb]
    simp
  · unfold GU
    simp
  · have := hd b hb
    subst this
    rw [h]
    simp [cel]
  · rw [hd b hb]; exact hl
theorem LS9.add (h : LS9 l n el Z μ) (hn : n < 200) (hE : ¬ Z μ.2.2.1) (hE1 : μ.2.2.1 < μ.2.1) (hE2 : ∃ f, μ.1 μ.2.2.1 = some (.inr (.inr (5, 0, f)))) (hok : ∀ i : Nat, (i : Int) < n → ∃ y, el i = some y ∧ y < μ.2.1 ∧ okR μ 5 (some y) = true) {q : Nat} (hq : okR μ 5 (some q) = true) (hq2 : q < μ.2.1) : ∃ el' μ', f_J2_add_2 l q μ = some (J 1, μ') ∧ LS9 l (n + 1) el' (fun b => Z b ∨ (μ.2.1 ≤ b ∧ b < μ'.2.1)) μ' ∧ (∀ b, b < μ.2.1 → ¬ Z b → μ'.1 b = μ.1 b) ∧ μ.2.1 ≤ μ'.2.1 ∧ μ'.2.2 = μ.2.2 ∧ ∀ i : Int, 0 ≤ i → i ≤ n → el' i.toNat = if i < n then el i.toNat else some q := by
  obtain ⟨D, G, adk, nfk, ndk, pnk, agk, mkk, flk, dtk, hwk, dpk, alk, cok, fek, rpk, rok, wek, plk, mok, eak, lnk, cpk, elk, owk, skk, txk, tlk, rfk, slk, hsk, ⟨a1, a2, a3⟩, ⟨b1, b2, b3, b4⟩, ⟨c1, c2, c3⟩, d⟩ := h
  have hout : ∀ b, ¬ Z b → (D b).1 = -1 := fun b hb => by
    by_cases q : (D b).1 = -1
    · exact q
    · exact absurd (d b q) hb
  have hμ := a3.eq
  obtain ⟨D', G', cp', el', σ', e1, e2, e3, e4, e5, e6, e7, e8, e9⟩ := kl_add2 (σ := μ) (q := q) (lnk := n) (elk := el) (mok := mok) (eak := eak) (cpk := cpk) (adk := adk) (nfk := nfk) (ndk := ndk) (pnk := pnk) (agk := agk) (mkk := mkk) (flk := flk) (dtk := dtk) (hwk := hwk) (dpk := dpk) (alk := alk) (cok := cok) (fek := fek) (rpk := rpk) (rok := rok) (wek := wek) (plk := plk) (owk := owk) (skk := skk) (txk := txk) (tlk := tlk) (rfk := rfk) (slk := slk) (hsk := hsk) a1 b1 b2 b3 ⟨hout _ hE, hE1, hE2⟩ b4 c1 hn c2 c3 (by rw [← hμ]; exact hok) (by rw [← hμ]; exact hq) hq2
  rw [← hμ, a2] at e1
  obtain ⟨x1, x2, x3, x4, x5⟩ := e6
  have hL' : LU D' G' ∧ G' 3 0 = l := by
    obtain ⟨y1, y2⟩ := e7.2 3 0 (by omega) (by omega) a1.2
    exact ⟨⟨e7.1, y1⟩, by rw [y2, a2]⟩
  refine ⟨el', _, e1, ⟨D', G', adk, nfk, ndk, pnk, agk, mkk, flk, dtk, hwk, dpk, alk, cok, fek, rpk, rok, wek, plk, mok + J 1, G' 3 2, lnk, cp', elk, owk, skk, txk, tlk, rfk, slk, hsk, ⟨hL'.1, hL'.2, HLD.of⟩, ⟨x5, e2, fun q => by omega, fun _ => ⟨rfl, e5⟩⟩, ⟨by omega, e3, e4⟩, fun b hb => ?_⟩, fun b hb hz => ?_, x1, x2, e9⟩
  · rcases x4 b hb with q | q
    · exact Or.inl (d b q)
    · exact Or.inr ⟨q, x5 b hb⟩
  · obtain ⟨y1, y2⟩ := x3 b hb (hout b hz)
    rw [cput_o y1, y2]
end T1
