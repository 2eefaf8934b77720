/-! PLAIN LAW: the twin's reaches. NAMES: un fsR fsP lv_ sw_, tm_ -/
set_option maxRecDepth 100000
/-- how many are not reached -/
def un (F : Int → Int) : Int := sm (fun b => if F b = -1 then 1 else 0) 200
theorem sm_le {f : Int → Int} (n : Nat) (h : ∀ k : Nat, k < n → 0 ≤ f k ∧ f k ≤ 1) : 0 ≤ sm f n ∧ sm f n ≤ n := by
  induction n with
  | zero => exact ⟨Int.le_refl _, Int.le_refl _⟩
  | succ n ih =>
    have h1 := ih (fun k hk => h k (by omega))
    have h2 := h n (by omega)
    rw [sm_s]
    omega
theorem sm_congr {f g : Int → Int} (n : Nat) (h : ∀ k : Nat, k < n → f k = g k) : sm f n = sm g n := by
  induction n with
  | zero => rfl
  | succ n ih => rw [sm_s, sm_s, ih (fun k hk => h k (by omega)), h n (by omega)]
theorem un_b (F : Int → Int) : 0 ≤ un F ∧ un F ≤ 200 := sm_le 200 (fun k _ => by by_cases h : F k = -1 <;> simp [h])
theorem un_up {F : Int → Int} {b v : Int} (h1 : 0 ≤ b) (h2 : b < 200) (h3 : F b = -1) (h4 : v ≠ -1) : un (up F b v) = un F - 1 := by
  have key : ∀ n : Nat, sm (fun c => if up F b v c = -1 then 1 else 0) n = sm (fun c => if F c = -1 then 1 else 0) n - (if b < n then 1 else 0) := by
    intro n
    induction n with
    | zero => rw [if_neg (by omega)]; rfl
    | succ n ih =>
      rw [sm_s, sm_s, ih]
      by_cases hb : b = n
      · subst hb
        rw [up_s, if_neg h4, h3, if_pos rfl, if_neg (by omega), if_pos (by omega)]
        omega
      · rw [up_n (by omega)]
        by_cases hc : b < n
        · rw [if_pos hc, if_pos (show b < ((n + 1 : Nat) : Int) by omega)]
          omega
        · rw [if_neg hc, if_neg (show ¬ b < ((n + 1 : Nat) : Int) by omega)]
          omega
  have := key 200
  rw [if_pos (by omega)] at this
  exact this
/-- the rows behind the roots; behind the pinned -/
noncomputable def fsR (m : Int → Int) (w : Int) (F : Int → Int) : Nat → Int → Int
  | 0 => F
  | n + 1 => if m (1200 + n) ≠ -1 ∧ ob m (m (1200 + n)) ≠ -1 ∧ ob m (m (1200 + n)) ≠ w then up (fsR m w F n) (ob m (m (1200 + n))) 0 else fsR m w F n
def fsP (m : Int → Int) (w : Int) (F : Int → Int) : Nat → Int → Int
  | 0 => F
  | n + 1 => if 0 < m n ∧ m (400 + n) = 1 ∧ (n : Int) ≠ w then up (fsP m w F n) n 0 else fsP m w F n
theorem fsP_s {m : Int → Int} {w : Int} {F : Int → Int} (n : Nat) : fsP m w F (n + 1) = if 0 < m n ∧ m (400 + n) = 1 ∧ (n : Int) ≠ w then up (fsP m w F n) n 0 else fsP m w F n := rfl
theorem fsR_v {m : Int → Int} {w : Int} {F : Int → Int} (n : Nat) (b : Int) : ((∃ k : Nat, k < n ∧ m (1200 + k) ≠ -1 ∧ ob m (m (1200 + k)) ≠ -1 ∧ ob m (m (1200 + k)) = b ∧ b ≠ w) ∧ fsR m w F n b = 0) ∨ ((∀ k : Nat, k < n → ¬ (m (1200 + k) ≠ -1 ∧ ob m (m (1200 + k)) ≠ -1 ∧ ob m (m (1200 + k)) = b ∧ b ≠ w)) ∧ fsR m w F n b = F b) := by
  induction n with
  | zero => exact Or.inr ⟨fun k hk => by omega, rfl⟩
  | succ n ih =>
    unfold fsR
    by_cases h : m (1200 + n) ≠ -1 ∧ ob m (m (1200 + n)) ≠ -1 ∧ ob m (m (1200 + n)) ≠ w
    · rw [if_pos h]
      by_cases hb : b = ob m (m (1200 + n))
      · refine Or.inl ⟨⟨n, by omega, h.1, h.2.1, hb.symm, by rw [hb]; exact h.2.2⟩, ?_⟩
        rw [hb, up_s]
      · rw [up_n hb]
        rcases ih with ⟨⟨k, k1, k2⟩, h2⟩ | ⟨h1, h2⟩
        · exact Or.inl ⟨⟨k, by omega, k2⟩, h2⟩
        · refine Or.inr ⟨fun k hk q => ?_, h2⟩
          by_cases hkn : k = n
          · subst hkn
            exact hb q.2.2.1.symm
          · exact h1 k (by omega) q
    · rw [if_neg h]
      rcases ih with ⟨⟨k, k1, k2⟩, h2⟩ | ⟨h1, h2⟩
      · exact Or.inl ⟨⟨k, by omega, k2⟩, h2⟩
      · refine Or.inr ⟨fun k hk q => ?_, h2⟩
        by_cases hkn : k = n
        · subst hkn
          exact h ⟨q.1, q.2.1, by rw [q.2.2.1]; exact q.2.2.2⟩
        · exact h1 k (by omega) q
theorem fsP_v {m : Int → Int} {w : Int} {F : Int → Int} (n : Nat) (b : Int) : ((0 ≤ b ∧ b < n ∧ 0 < m b ∧ m (400 + b) = 1 ∧ b ≠ w) ∧ fsP m w F n b = 0) ∨ (¬ (0 ≤ b ∧ b < n ∧ 0 < m b ∧ m (400 + b) = 1 ∧ b ≠ w) ∧ fsP m w F n b = F b) := by
  induction n with
  | zero => exact Or.inr ⟨fun q => by omega, rfl⟩
  | succ n ih =>
    unfold fsP
    by_cases h : 0 < m n ∧ m (400 + n) = 1 ∧ (n : Int) ≠ w
    · rw [if_pos h]
      by_cases hb : b = n
      · subst hb
        exact Or.inl ⟨⟨by omega, by omega, h.1, h.2.1, h.2.2⟩, up_s _ _ _⟩
      · rw [up_n hb]
        rcases ih with ⟨h1, h2⟩ | ⟨h1, h2⟩
        · exact Or.inl ⟨⟨h1.1, by omega, h1.2.2⟩, h2⟩
        · exact Or.inr ⟨fun q => h1 ⟨q.1, by omega, q.2.2⟩, h2⟩
    · rw [if_neg h]
      rcases ih with ⟨h1, h2⟩ | ⟨h1, h2⟩
      · exact Or.inl ⟨⟨h1.1, by omega, h1.2.2⟩, h2⟩
      · refine Or.inr ⟨fun q => ?_, h2⟩
        by_cases hb : b = n
        · subst hb
          exact h q.2.2
        · exact h1 ⟨q.1, by omega, q.2.2⟩
/-- the levels up to st are told -/
def lvl (m : Int → Int) (w : Int) (F : Int → Int) (st : Int) : Prop := ∀ b, 0 ≤ b → b < 200 → (F b = -1 ∨ (0 ≤ F b ∧ F b ≤ st)) ∧ (0 ≤ F b → rd m w (F b).toNat b ∧ ∀ k : Nat, (k : Int) < F b → ¬ rd m w k b) ∧ ∀ k : Nat, (k : Int) ≤ st → rd m w k b → F b ≠ -1
/-- all is told -/
def FAR (m : Int → Int) (w : Int) (F : Int → Int) : Prop := ∀ b, 0 ≤ b → b < 200 → (F b = -1 ∧ ∀ k, ¬ rd m w k b) ∨ (0 ≤ F b ∧ F b ≤ 300 ∧ rd m w (F b).toNat b ∧ ∀ k : Nat, (k : Int) < F b → ¬ rd m w k b)
/-- within a round: the objects below a, and the fields below f of a, are done -/
def swp (m : Int → Int) (w : Int) (F : Int → Int) (st a f mo : Int) : Prop :=
  (∀ b, 0 ≤ b → b < 200 → (F b = -1 ∨ (0 ≤ F b ∧ F b ≤ st + 1)) ∧ (0 ≤ F b → rd m w (F b).toNat b ∧ ∀ k : Nat, (k : Int) < F b → ¬ rd m w k b) ∧ ∀ k : Nat, (k : Int) ≤ st → rd m w k b → F b ≠ -1) ∧
  (∀ a' f', 0 ≤ a' → a' < 200 → 0 < m a' → 1 ≤ f' → f' ≤ m (200 + a') → m (800 + a' + f') ≠ -1 → (a' < a ∨ (a' = a ∧ f' < f)) → F a' = st → ob m (m (800 + a' + f')) ≠ w → F (ob m (m (800 + a' + f'))) ≠ -1) ∧
  (mo = 0 ∨ mo = 1) ∧ (mo = 0 → ∀ b, 0 ≤ b → b < 200 → F b ≠ st + 1) ∧ 0 ≤ st ∧ st + un F + mo ≤ 200
theorem swp_end {m : Int → Int} (hm : WF m) {w : Int} {F : Int → Int} {st a f mo : Int} (h : swp m w F st a f mo) (ha : m 1216 ≤ a) : lvl m w F (st + 1) ∧ (mo = 0 → FAR m w F) := by
  obtain ⟨h1, h2, h3, h4, h5, h6⟩ := h
  have hun := un_b F
  have hl : lvl m w F (st + 1) := by
    intro b b1 b2
    obtain ⟨q1, q2, q3⟩ := h1 b b1 b2
    refine ⟨q1, q2, fun k hk hr => ?_⟩
    by_cases hks : (k : Int) ≤ st
    · exact q3 k hks hr
    · have hk1 : k = st.toNat + 1 := by omega
      subst hk1
      rcases hr with hr | ⟨a', r1, r2, r3⟩
      · exact q3 _ (by omega) hr
      · obtain ⟨a1, a2, a3⟩ := rd_in hm r1
        obtain ⟨p1, p2, p3⟩ := h1 a' a1 a2
        have p4 := p3 _ (by omega) r1
        obtain ⟨p5, p6⟩ := p2 (by omega)
        have r2' := r2
        obtain ⟨-, -, -, f', f1, f2, f3, rfl⟩ := r2
        have hle : F a' ≤ st := by
          by_cases hgt : F a' ≤ st
          · exact hgt
          · exact absurd r1 (p6 st.toNat (by omega))
        by_cases hst : F a' = st
        · have := hm.he a' a1 a2 a3
          exact h2 a' f' a1 a2 a3 f1 f2 f3 (Or.inl (by omega)) hst r3
        · have hr2 : rd m w ((F a').toNat + 1) (ob m (m (800 + a' + f'))) := Or.inr ⟨a', p5, r2', r3⟩
          exact q3 _ (by omega) hr2
  refine ⟨hl, fun hmo => ?_⟩
  have hcl : ∀ (j : Nat) b, rd m w j b → rd m w st.toNat b := by
    intro j
    induction j with
    | zero => intro b hb; exact rd_mono hb (by omega)
    | succ j ih =>
      intro b hb
      have hb1 : rd m w (st.toNat + 1) b := by
        rcases hb with hb | ⟨a', r1, r2, r3⟩
        · exact Or.inl (ih b hb)
        · exact Or.inr ⟨a', ih a' r1, r2, r3⟩
      obtain ⟨b1, b2, b3⟩ := rd_in hm hb1
      obtain ⟨q1, q2, q3⟩ := hl b b1 b2
      have q4 := q3 _ (by omega) hb1
      have q5 := h4 hmo b b1 b2
      exact rd_mono (q2 (by omega)).1 (by omega)
  intro b b1 b2
  obtain ⟨q1, q2, q3⟩ := hl b b1 b2
  rcases q1 with q1 | q1
  · refine Or.inl ⟨q1, fun k hk => q3 st.toNat (by omega) (hcl k b hk) q1⟩
  · exact Or.inr ⟨q1.1, by omega, q2 q1.1⟩
theorem swp_start {m : Int → Int} {w : Int} {F : Int → Int} {st : Int} (h : lvl m w F st) (h0 : 0 ≤ st) (hu : st + un F ≤ 200) : swp m w F st 0 1 0 := by
  refine ⟨fun b b1 b2 => ?_, fun a' f' a1 a2 a3 f1 f2 f3 h1 => ?_, Or.inl rfl, fun _ b b1 b2 => ?_, h0, by omega⟩
  · obtain ⟨q1, q2, q3⟩ := h b b1 b2
    exact ⟨by omega, q2, q3⟩
  · omega
  · obtain ⟨q1, q2, q3⟩ := h b b1 b2
    omega
theorem swp_skip {m : Int → Int} {w : Int} {F : Int → Int} {st a f mo : Int} (h : swp m w F st a f mo) (hs : m (200 + a) < f ∨ m a ≤ 0 ∨ F a ≠ st) : swp m w F st (a + 1) 1 mo := by
  obtain ⟨h1, h2, h3⟩ := h
  refine ⟨h1, fun a' f' a1 a2 a3 f1 f2 f3 q1 q2 q3 => ?_, h3⟩
  by_cases ha : a' < a
  · exact h2 a' f' a1 a2 a3 f1 f2 f3 (Or.inl ha) q2 q3
  · have hae : a' = a := by omega
    subst hae
    rcases hs with hs | hs | hs
    · exact h2 a' f' a1 a2 a3 f1 f2 f3 (Or.inr ⟨rfl, by omega⟩) q2 q3
    · omega
    · exact absurd q2 hs
/-- a field that says nothing new -/
theorem swp_old {m : Int → Int} {w : Int} {F : Int → Int} {st a f mo : Int} (h : swp m w F st a f mo) (hs : m (800 + a + f) = -1 ∨ ob m (m (800 + a + f)) = w ∨ F (ob m (m (800 + a + f))) ≠ -1) : swp m w F st a (f + 1) mo := by
  obtain ⟨h1, h2, h3⟩ := h
  refine ⟨h1, fun a' f' a1 a2 a3 f1 f2 f3 q1 q2 q3 => ?_, h3⟩
  by_cases ha : a' < a ∨ (a' = a ∧ f' < f)
  · exact h2 a' f' a1 a2 a3 f1 f2 f3 ha q2 q3
  · have hae : a' = a := by omega
    have hfe : f' = f := by omega
    subst hae
    subst hfe
    rcases hs with hs | hs | hs
    · exact absurd hs f3
    · exact absurd hs q3
    · exact hs
/-- a field that reaches an object -/
theorem swp_new {m : Int → Int} (hm : WF m) {w : Int} {F : Int → Int} {st a f mo : Int} (h : swp m w F st a f mo) (a1 : 0 ≤ a) (a2 : a < 200) (a3 : 0 < m a) (f1 : 1 ≤ f) (f2 : f ≤ m (200 + a)) (hF : F a = st) (h8 : m (800 + a + f) ≠ -1) (hw : ob m (m (800 + a + f)) ≠ w) (hn : F (ob m (m (800 + a + f))) = -1) : swp m w (up F (ob m (m (800 + a + f))) (st + 1)) st a (f + 1) 1 := by
  have hoc := ob_of_rf (hm.hq a f a1 a2 a3 f1 f2) h8
  obtain ⟨o1, o2, o3, -⟩ := hoc
  have hed : ed m a (ob m (m (800 + a + f))) := ⟨a1, a2, a3, f, f1, f2, h8, rfl⟩
  obtain ⟨o, ho⟩ : ∃ o, ob m (m (800 + a + f)) = o := ⟨_, rfl⟩
  rw [ho] at o1 o2 o3 hed hw hn ⊢
  obtain ⟨h1, h2, h3, h4, h5, h6⟩ := h
  have hru : rd m w (st + 1).toNat o := by
    have h9 := (h1 a a1 a2).2.1 (by omega)
    rw [hF] at h9
    rw [show (st + 1).toNat = st.toNat + 1 by omega]
    exact Or.inr ⟨a, h9.1, hed, hw⟩
  have hnr : ∀ k : Nat, (k : Int) < st + 1 → ¬ rd m w k o := fun k hk hr => (h1 o o1 o2).2.2 k (by omega) hr hn
  have huu := un_up (v := st + 1) o1 o2 hn (by omega)
  refine ⟨fun b b1 b2 => ?_, fun a' f' p1 p2 p3 g1 g2 g3 q1 q2 q3 => ?_, Or.inr rfl, fun q => by omega, h5, by omega⟩
  · by_cases hb : b = o
    · subst hb
      rw [up_s]
      exact ⟨by omega, fun _ => ⟨hru, hnr⟩, fun k hk hr => by omega⟩
    · rw [up_n hb]
      exact h1 b b1 b2
  · have ha' : a' ≠ o := by
      intro e
      rw [e, up_s] at q2
      omega
    rw [up_n ha'] at q2
    by_cases hob : ob m (m (800 + a' + f')) = o
    · rw [hob, up_s]
      omega
    · rw [up_n hob]
      by_cases hd : a' < a ∨ (a' = a ∧ f' < f)
      · exact h2 a' f' p1 p2 p3 g1 g2 g3 hd q2 q3
      · have hae : a' = a := by omega
        have hfe : f' = f := by omega
        subst hae
        subst hfe
        exact absurd ho hob
section T7
variable {t : Nat} {m old saved isS text far mk stk cmd : Int → Int} {tl rf_ top hi ov cm at_ ft : Int} {hs : Int64} {σ : mm_M}
theorem tm_reaches (hm : WF m) {w : Int} (hw : ir w) : ∃ F, f_X2_reaches t (J w) (tput t m old saved isS text tl rf_ far mk stk top hi ov cmd cm at_ ft hs σ) = some (tput t m old saved isS text tl rf_ F mk stk top hi ov cmd cm at_ ft hs σ) ∧ FAR m w F := by
  have hW := hm.hW
  have hw' := hw
  obtain ⟨w1, w2⟩ := hw
  unfold f_X2_reaches g_X2_reaches_0
  rw [lgo_l, J_lit]
  obtain ⟨F0, hF0⟩ : ∃ F0 : Int → Int, F0 = fun j => if 0 ≤ j ∧ j < 200 then -1 else far j := ⟨_, rfl⟩
  have hF0v : ∀ b, 0 ≤ b → b < 200 → F0 b = -1 := fun b b1 b2 => by rw [hF0]; exact if_pos ⟨b1, b2⟩
  rw [lpx_steps2 (f := s_X2_reaches t (J w)) (fun k => .inl (J k, (tput t m old saved isS text tl rf_ (fun j => if 0 ≤ j ∧ j < (k : Int) then -1 else far j) mk stk top hi ov cmd cm at_ ft hs σ))) 200 (by
      have h0 : (fun j => if 0 ≤ j ∧ j < ((0 : Nat) : Int) then (-1 : Int) else far j) = far := by
        funext j
        rw [if_neg (by omega)]
      simp only [h0]
      rfl) (by
    intro k hk
    have hup : up (fun j => if 0 ≤ j ∧ j < (k : Int) then (-1 : Int) else far j) k (-1) = fun j => if 0 ≤ j ∧ j < ((k + 1 : Nat) : Int) then -1 else far j := by
      funext j
      unfold up
      grind
    unfold s_X2_reaches g_X2_reaches_2
    dsimp only
    simp (disch := omega) only [Option.bind_some, tw_gm, tw_gold, tw_gsaved, tw_gisS, tw_gtext, tw_gtl, tw_grf_, tw_gfar, tw_gmk, tw_gstk, tw_gtop, tw_ghi, tw_gov, tw_gcmd, tw_gcm, tw_gat_, tw_gft, tw_ghs, tw_nm, tw_nold, tw_nsaved, tw_nisS, tw_ntext, tw_nfar, tw_nmk, tw_nstk, tw_ncmd, tw_ck, tw_am, tw_aold, tw_asaved, tw_aisS, tw_atext, tw_afar, tw_amk, tw_astk, tw_acmd, tw_sm, tw_sold, tw_ssaved, tw_sisS, tw_stext, tw_sfar, tw_smk, tw_sstk, tw_scmd, tw_ptl, tw_prf_, tw_ptop, tw_phi, tw_pov, tw_pcm, tw_pat_, tw_pft, tw_phs, tw_zov, J_add, J_sub, J_mul, J_neg, J_lit, J_lt, J_le, J_eq, Int.reduceAdd, Int.reduceSub, Int.reduceMul, Int.reduceNeg, Int.reduceEq, Int.reduceLT, Int.reduceLE, reduceIte, Int.zero_add, Int.add_zero, and_self, true_and, and_true, false_and, and_false, or_true, true_or, or_false, false_or, not_true_eq_false, not_false_eq_true, ne_eq, b2_s, if_neg (show ¬ ((200 : Int) ≤ k) by omega), hup]
    rfl)]
  rw [show (fun j => if 0 ≤ j ∧ j < ((200 : Nat) : Int) then (-1 : Int) else far j) = F0 from hF0.symm]
  rw [lpx_n (s' := .inr (.inl (J 0, (tput t m old saved isS text tl rf_ F0 mk stk top hi ov cmd cm at_ ft hs σ)))) (by
    unfold s_X2_reaches g_X2_reaches_2
    dsimp only
    simp (disch := omega) only [Option.bind_some, tw_gm, tw_gold, tw_gsaved, tw_gisS, tw_gtext, tw_gtl, tw_grf_, tw_gfar, tw_gmk, tw_gstk, tw_gtop, tw_ghi, tw_gov, tw_gcmd, tw_gcm, tw_gat_, tw_gft, tw_ghs, tw_nm, tw_nold, tw_nsaved, tw_nisS, tw_ntext, tw_nfar, tw_nmk, tw_nstk, tw_ncmd, tw_ck, tw_am, tw_aold, tw_asaved, tw_aisS, tw_atext, tw_afar, tw_amk, tw_astk, tw_acmd, tw_sm, tw_sold, tw_ssaved, tw_sisS, tw_stext, tw_sfar, tw_smk, tw_sstk, tw_scmd, tw_ptl, tw_prf_, tw_ptop, tw_phi, tw_pov, tw_pcm, tw_pat_, tw_pft, tw_phs, tw_zov, J_add, J_sub, J_mul, J_neg, J_lit, J_lt, J_le, J_eq, Int.reduceAdd, Int.reduceSub, Int.reduceMul, Int.reduceNeg, Int.reduceEq, Int.reduceLT, Int.reduceLE, reduceIte, Int.zero_add, Int.add_zero, and_self, true_and, and_true, false_and, and_false, or_true, true_or, or_false, false_or, not_true_eq_false, not_false_eq_true, ne_eq, b2_s, if_pos (show (200 : Int) ≤ (200 : Nat) by omega)])]
  rw [lpx_steps2 (f := s_X2_reaches t (J w)) (fun k => .inr (.inl (J k, (tput t m old saved isS text tl rf_ (fsR m w F0 k) mk stk top hi ov cmd cm at_ ft hs σ)))) 6 (by rfl) (by
    intro k hk
    have hr := rf_ir hm (hm.hr k (by omega) (by omega))
    unfold s_X2_reaches g_X2_reaches_24
    dsimp only
    simp (disch := omega) only [Option.bind_some, tw_gm, tw_gold, tw_gsaved, tw_gisS, tw_gtext, tw_gtl, tw_grf_, tw_gfar, tw_gmk, tw_gstk, tw_gtop, tw_ghi, tw_gov, tw_gcmd, tw_gcm, tw_gat_, tw_gft, tw_ghs, tw_nm, tw_nold, tw_nsaved, tw_nisS, tw_ntext, tw_nfar, tw_nmk, tw_nstk, tw_ncmd, tw_ck, tw_am, tw_aold, tw_asaved, tw_aisS, tw_atext, tw_afar, tw_amk, tw_astk, tw_acmd, tw_sm, tw_sold, tw_ssaved, tw_sisS, tw_stext, tw_sfar, tw_smk, tw_sstk, tw_scmd, tw_ptl, tw_prf_, tw_ptop, tw_phi, tw_pov, tw_pcm, tw_pat_, tw_pft, tw_phs, tw_zov, J_add, J_sub, J_mul, J_neg, J_lit, J_lt, J_le, J_eq, Int.reduceAdd, Int.reduceSub, Int.reduceMul, Int.reduceNeg, Int.reduceEq, Int.reduceLT, Int.reduceLE, reduceIte, Int.zero_add, Int.add_zero, and_self, true_and, and_true, false_and, and_false, or_true, true_or, or_false, false_or, not_true_eq_false, not_false_eq_true, ne_eq, b2_s, if_neg (show ¬ ((6 : Int) ≤ k) by omega), tm_starts hm (show ir (m (1200 + k)) by unfold ir; omega) hw']
    rfl)]
  rw [lpx_n (s' := .inr (.inr (.inl (J 0, (tput t m old saved isS text tl rf_ (fsR m w F0 6) mk stk top hi ov cmd cm at_ ft hs σ))))) (by
    unfold s_X2_reaches g_X2_reaches_24
    dsimp only
    simp (disch := omega) only [Option.bind_some, tw_gm, tw_gold, tw_gsaved, tw_gisS, tw_gtext, tw_gtl, tw_grf_, tw_gfar, tw_gmk, tw_gstk, tw_gtop, tw_ghi, tw_gov, tw_gcmd, tw_gcm, tw_gat_, tw_gft, tw_ghs, tw_nm, tw_nold, tw_nsaved, tw_nisS, tw_ntext, tw_nfar, tw_nmk, tw_nstk, tw_ncmd, tw_ck, tw_am, tw_aold, tw_asaved, tw_aisS, tw_atext, tw_afar, tw_amk, tw_astk, tw_acmd, tw_sm, tw_sold, tw_ssaved, tw_sisS, tw_stext, tw_sfar, tw_smk, tw_sstk, tw_scmd, tw_ptl, tw_prf_, tw_ptop, tw_phi, tw_pov, tw_pcm, tw_pat_, tw_pft, tw_phs, tw_zov, J_add, J_sub, J_mul, J_neg, J_lit, J_lt, J_le, J_eq, Int.reduceAdd, Int.reduceSub, Int.reduceMul, Int.reduceNeg, Int.reduceEq, Int.reduceLT, Int.reduceLE, reduceIte, Int.zero_add, Int.add_zero, and_self, true_and, and_true, false_and, and_false, or_true, true_or, or_false, false_or, not_true_eq_false, not_false_eq_true, ne_eq, b2_s, if_pos (show (6 : Int) ≤ (6 : Nat) by omega)])]
  rw [lpx_steps2 (f := s_X2_reaches t (J w)) (fun k => .inr (.inr (.inl (J k, (tput t m old saved isS text tl rf_ (fsP m w (fsR m w F0 6) k) mk stk top hi ov cmd cm at_ ft hs σ))))) (m 1216).toNat (by rfl) (by
    intro k hk
    have hsz := hm.hs k (by omega) (by omega)
    unfold s_X2_reaches g_X2_reaches_53
    dsimp only
    have hn1 := tm_starts (t := t) (old := old) (saved := saved) (isS := isS) (text := text) (tl := tl) (rf_ := rf_) (far := fsP m w (fsR m w F0 6) k) (mk := mk) (stk := stk) (top := top) (hi := hi) (ov := ov) (cmd := cmd) (cm := cm) (at_ := at_) (ft := ft) (hs := hs) (σ := σ) hm (x := -1) (show ir (-1) by unfold ir; omega) hw'
    rw [if_neg (fun q => q.1 rfl)] at hn1
    by_cases h0 : m k ≤ 0
    · simp (disch := omega) only [Option.bind_some, tw_gm, tw_gold, tw_gsaved, tw_gisS, tw_gtext, tw_gtl, tw_grf_, tw_gfar, tw_gmk, tw_gstk, tw_gtop, tw_ghi, tw_gov, tw_gcmd, tw_gcm, tw_gat_, tw_gft, tw_ghs, tw_nm, tw_nold, tw_nsaved, tw_nisS, tw_ntext, tw_nfar, tw_nmk, tw_nstk, tw_ncmd, tw_ck, tw_am, tw_aold, tw_asaved, tw_aisS, tw_atext, tw_afar, tw_amk, tw_astk, tw_acmd, tw_sm, tw_sold, tw_ssaved, tw_sisS, tw_stext, tw_sfar, tw_smk, tw_sstk, tw_scmd, tw_ptl, tw_prf_, tw_ptop, tw_phi, tw_pov, tw_pcm, tw_pat_, tw_pft, tw_phs, tw_zov, J_add, J_sub, J_mul, J_neg, J_lit, J_lt, J_le, J_eq, Int.reduceAdd, Int.reduceSub, Int.reduceMul, Int.reduceNeg, Int.reduceEq, Int.reduceLT, Int.reduceLE, reduceIte, Int.zero_add, Int.add_zero, and_self, true_and, and_true, false_and, and_false, or_true, true_or, or_false, false_or, not_true_eq_false, not_false_eq_true, ne_eq, b2_s, if_neg (show ¬ (m 1216 ≤ (k : Int)) by omega), if_pos h0, hn1]
      rw [fsP_s]
      rw [if_neg (c := 0 < m k ∧ m (400 + k) = 1 ∧ (k : Int) ≠ w) (fun q => by omega)]
      rfl
    · rcases hm.hp k (by omega) (by omega) with h1 | h1
      · simp (disch := omega) only [Option.bind_some, tw_gm, tw_gold, tw_gsaved, tw_gisS, tw_gtext, tw_gtl, tw_grf_, tw_gfar, tw_gmk, tw_gstk, tw_gtop, tw_ghi, tw_gov, tw_gcmd, tw_gcm, tw_gat_, tw_gft, tw_ghs, tw_nm, tw_nold, tw_nsaved, tw_nisS, tw_ntext, tw_nfar, tw_nmk, tw_nstk, tw_ncmd, tw_ck, tw_am, tw_aold, tw_asaved, tw_aisS, tw_atext, tw_afar, tw_amk, tw_astk, tw_acmd, tw_sm, tw_sold, tw_ssaved, tw_sisS, tw_stext, tw_sfar, tw_smk, tw_sstk, tw_scmd, tw_ptl, tw_prf_, tw_ptop, tw_phi, tw_pov, tw_pcm, tw_pat_, tw_pft, tw_phs, tw_zov, J_add, J_sub, J_mul, J_neg, J_lit, J_lt, J_le, J_eq, Int.reduceAdd, Int.reduceSub, Int.reduceMul, Int.reduceNeg, Int.reduceEq, Int.reduceLT, Int.reduceLE, reduceIte, Int.zero_add, Int.add_zero, and_self, true_and, and_true, false_and, and_false, or_true, true_or, or_false, false_or, not_true_eq_false, not_false_eq_true, ne_eq, b2_s, if_neg (show ¬ (m 1216 ≤ (k : Int)) by omega), if_neg h0, h1, hn1]
        rw [fsP_s]
        rw [if_neg (c := 0 < m k ∧ m (400 + k) = 1 ∧ (k : Int) ≠ w) (fun q => by omega)]
        rfl
      · have hob : ob m k = k := ob_e hm ⟨by omega, by omega, by omega, by omega, by omega⟩
        have hn2 := tm_starts (t := t) (old := old) (saved := saved) (isS := isS) (text := text) (tl := tl) (rf_ := rf_) (far := fsP m w (fsR m w F0 6) k) (mk := mk) (stk := stk) (top := top) (hi := hi) (ov := ov) (cmd := cmd) (cm := cm) (at_ := at_) (ft := ft) (hs := hs) (σ := σ) hm (x := k) (show ir k by unfold ir; omega) hw'
        rw [hob] at hn2
        simp (disch := omega) only [Option.bind_some, tw_gm, tw_gold, tw_gsaved, tw_gisS, tw_gtext, tw_gtl, tw_grf_, tw_gfar, tw_gmk, tw_gstk, tw_gtop, tw_ghi, tw_gov, tw_gcmd, tw_gcm, tw_gat_, tw_gft, tw_ghs, tw_nm, tw_nold, tw_nsaved, tw_nisS, tw_ntext, tw_nfar, tw_nmk, tw_nstk, tw_ncmd, tw_ck, tw_am, tw_aold, tw_asaved, tw_aisS, tw_atext, tw_afar, tw_amk, tw_astk, tw_acmd, tw_sm, tw_sold, tw_ssaved, tw_sisS, tw_stext, tw_sfar, tw_smk, tw_sstk, tw_scmd, tw_ptl, tw_prf_, tw_ptop, tw_phi, tw_pov, tw_pcm, tw_pat_, tw_pft, tw_phs, tw_zov, J_add, J_sub, J_mul, J_neg, J_lit, J_lt, J_le, J_eq, Int.reduceAdd, Int.reduceSub, Int.reduceMul, Int.reduceNeg, Int.reduceEq, Int.reduceLT, Int.reduceLE, reduceIte, Int.zero_add, Int.add_zero, and_self, true_and, and_true, false_and, and_false, or_true, true_or, or_false, false_or, not_true_eq_false, not_false_eq_true, ne_eq, b2_s, if_neg (show ¬ (m 1216 ≤ (k : Int)) by omega), if_neg h0, h1, hn2]
        rw [fsP_s]
        by_cases hkw : (k : Int) = w
        · rw [if_neg (c := (¬ (k : Int) = -1) ∧ (¬ (k : Int) = -1) ∧ ¬ (k : Int) = w) (fun q => q.2.2 hkw), if_neg (c := 0 < m k ∧ m (400 + k) = 1 ∧ (k : Int) ≠ w) (fun q => q.2.2 hkw)]
          rfl
        · rw [if_pos (c := (¬ (k : Int) = -1) ∧ (¬ (k : Int) = -1) ∧ ¬ (k : Int) = w) ⟨by omega, by omega, hkw⟩, if_pos (c := 0 < m k ∧ m (400 + k) = 1 ∧ (k : Int) ≠ w) ⟨by omega, h1, hkw⟩]
          rfl)]
  rw [lpx_n (s' := .inr (.inr (.inr (.inl (J 1, J 0, (tput t m old saved isS text tl rf_ (fsP m w (fsR m w F0 6) (m 1216).toNat) mk stk top hi ov cmd cm at_ ft hs σ)))))) (by
    unfold s_X2_reaches g_X2_reaches_53
    dsimp only
    simp (disch := omega) only [Option.bind_some, tw_gm, tw_gold, tw_gsaved, tw_gisS, tw_gtext, tw_gtl, tw_grf_, tw_gfar, tw_gmk, tw_gstk, tw_gtop, tw_ghi, tw_gov, tw_gcmd, tw_gcm, tw_gat_, tw_gft, tw_ghs, tw_nm, tw_nold, tw_nsaved, tw_nisS, tw_ntext, tw_nfar, tw_nmk, tw_nstk, tw_ncmd, tw_ck, tw_am, tw_aold, tw_asaved, tw_aisS, tw_atext, tw_afar, tw_amk, tw_astk, tw_acmd, tw_sm, tw_sold, tw_ssaved, tw_sisS, tw_stext, tw_sfar, tw_smk, tw_sstk, tw_scmd, tw_ptl, tw_prf_, tw_ptop, tw_phi, tw_pov, tw_pcm, tw_pat_, tw_pft, tw_phs, tw_zov, J_add, J_sub, J_mul, J_neg, J_lit, J_lt, J_le, J_eq, Int.reduceAdd, Int.reduceSub, Int.reduceMul, Int.reduceNeg, Int.reduceEq, Int.reduceLT, Int.reduceLE, reduceIte, Int.zero_add, Int.add_zero, and_self, true_and, and_true, false_and, and_false, or_true, true_or, or_false, false_or, not_true_eq_false, not_false_eq_true, ne_eq, b2_s, Int.toNat_of_nonneg (show 0 ≤ m 1216 by omega), if_pos (show m 1216 ≤ m 1216 by omega)])]
  have hlv : lvl m w (fsP m w (fsR m w F0 6) (m 1216).toNat) 0 := by
    intro b b1 b2
    have hst : sta m b ∧ b ≠ w ↔ fsP m w (fsR m w F0 6) (m 1216).toNat b ≠ -1 := by
      constructor
      · rintro ⟨h1 | h1, h2⟩
        · obtain ⟨k, k1, k2, k3, k4⟩ := h1
          rcases fsP_v (m := m) (w := w) (F := fsR m w F0 6) (m 1216).toNat b with ⟨-, q⟩ | ⟨-, q⟩
          · omega
          · rcases fsR_v (m := m) (w := w) (F := F0) 6 b with ⟨-, q2⟩ | ⟨q1, q2⟩
            · omega
            · exact absurd ⟨by rw [Int.toNat_of_nonneg k1]; exact k3, by rw [Int.toNat_of_nonneg k1, k4]; omega, by rw [Int.toNat_of_nonneg k1]; exact k4, h2⟩ (q1 k.toNat (by omega))
        · have := hm.he b b1 b2 h1.2.2.1
          rcases fsP_v (m := m) (w := w) (F := fsR m w F0 6) (m 1216).toNat b with ⟨-, q⟩ | ⟨q1, q⟩
          · omega
          · exact absurd ⟨b1, by omega, h1.2.2.1, h1.2.2.2, h2⟩ q1
      · intro h
        rcases fsP_v (m := m) (w := w) (F := fsR m w F0 6) (m 1216).toNat b with ⟨q1, q⟩ | ⟨q1, q⟩
        · exact ⟨Or.inr ⟨b1, b2, q1.2.2.1, q1.2.2.2.1⟩, q1.2.2.2.2⟩
        · rcases fsR_v (m := m) (w := w) (F := F0) 6 b with ⟨⟨k, k1, k2, k3, k4, k5⟩, q2⟩ | ⟨-, q2⟩
          · exact ⟨Or.inl ⟨k, by omega, by omega, k2, k4⟩, k5⟩
          · rw [q, q2, hF0v b b1 b2] at h
            exact absurd rfl h
    have hval : fsP m w (fsR m w F0 6) (m 1216).toNat b = -1 ∨ fsP m w (fsR m w F0 6) (m 1216).toNat b = 0 := by
      rcases fsP_v (m := m) (w := w) (F := fsR m w F0 6) (m 1216).toNat b with ⟨-, q⟩ | ⟨-, q⟩
      · exact Or.inr q
      · rcases fsR_v (m := m) (w := w) (F := F0) 6 b with ⟨-, q2⟩ | ⟨-, q2⟩
        · exact Or.inr (q.trans q2)
        · exact Or.inl (q.trans (q2.trans (hF0v b b1 b2)))
    refine ⟨by omega, fun h => ⟨?_, fun k hk => by omega⟩, fun k hk hr => ?_⟩
    · rw [show (fsP m w (fsR m w F0 6) (m 1216).toNat b).toNat = 0 by omega]
      exact hst.mpr (by omega)
    · have hk0 : k = 0 := by omega
      subst hk0
      exact hst.mp hr
  generalize fsP m w (fsR m w F0 6) (m 1216).toNat = F1 at hlv
  have hu1 := un_b F1
  obtain ⟨r, e, F, rfl, hF⟩ := lpx_mu (f := s_X2_reaches t (J w)) (fun n s => match s with
    | .inr (.inr (.inr (.inl s))) => ∃ mo st F, s = (J mo, J st, (tput t m old saved isS text tl rf_ F mk stk top hi ov cmd cm at_ ft hs σ)) ∧ (mo = 0 ∨ mo = 1) ∧ 0 ≤ st ∧ st ≤ 300 ∧ lvl m w F st ∧ (mo = 0 → FAR m w F) ∧ (mo = 1 → st + un F ≤ 200) ∧ n = ((un F + mo) * 2000).toNat
    | .inr (.inr (.inr (.inr (.inl s)))) => ∃ mo st a F, s = (J mo, J st, J a, (tput t m old saved isS text tl rf_ F mk stk top hi ov cmd cm at_ ft hs σ)) ∧ 0 ≤ a ∧ a ≤ 200 ∧ swp m w F st a 1 mo ∧ n = ((un F + mo) * 2000 + (200 - a) * 9 + 8).toNat
    | .inr (.inr (.inr (.inr (.inr s)))) => ∃ mo st a f F, s = (J mo, J st, J a, J f, (tput t m old saved isS text tl rf_ F mk stk top hi ov cmd cm at_ ft hs σ)) ∧ 0 ≤ a ∧ a < m 1216 ∧ 1 ≤ f ∧ f ≤ 7 ∧ swp m w F st a f mo ∧ n = ((un F + mo) * 2000 + (200 - a) * 9 + 8 - f).toNat
    | _ => False) (fun r => ∃ F, r = (tput t m old saved isS text tl rf_ F mk stk top hi ov cmd cm at_ ft hs σ) ∧ FAR m w F) (by
    rintro n (s | s | s | s | s | s) hs9
    · exact hs9.elim
    · exact hs9.elim
    · exact hs9.elim
    · obtain ⟨mo, st, F, rfl, h1, h2, h3, h4, h5, h6, rfl⟩ := hs9
      unfold s_X2_reaches g_X2_reaches_110
      dsimp only
      have hu := un_b F
      rcases h1 with h1 | h1
      · subst h1
        simp (disch := omega) only [Option.bind_some, tw_gm, tw_gold, tw_gsaved, tw_gisS, tw_gtext, tw_gtl, tw_grf_, tw_gfar, tw_gmk, tw_gstk, tw_gtop, tw_ghi, tw_gov, tw_gcmd, tw_gcm, tw_gat_, tw_gft, tw_ghs, tw_nm, tw_nold, tw_nsaved, tw_nisS, tw_ntext, tw_nfar, tw_nmk, tw_nstk, tw_ncmd, tw_ck, tw_am, tw_aold, tw_asaved, tw_aisS, tw_atext, tw_afar, tw_amk, tw_astk, tw_acmd, tw_sm, tw_sold, tw_ssaved, tw_sisS, tw_stext, tw_sfar, tw_smk, tw_sstk, tw_scmd, tw_ptl, tw_prf_, tw_ptop, tw_phi, tw_pov, tw_pcm, tw_pat_, tw_pft, tw_phs, tw_zov, J_add, J_sub, J_mul, J_neg, J_lit, J_lt, J_le, J_eq, Int.reduceAdd, Int.reduceSub, Int.reduceMul, Int.reduceNeg, Int.reduceEq, Int.reduceLT, Int.reduceLE, reduceIte, Int.zero_add, Int.add_zero, and_self, true_and, and_true, false_and, and_false, or_true, true_or, or_false, false_or, not_true_eq_false, not_false_eq_true, ne_eq, b2_s]
        exact Or.inl ⟨_, rfl, F, rfl, h5 rfl⟩
      · subst h1
        simp (disch := omega) only [Option.bind_some, tw_gm, tw_gold, tw_gsaved, tw_gisS, tw_gtext, tw_gtl, tw_grf_, tw_gfar, tw_gmk, tw_gstk, tw_gtop, tw_ghi, tw_gov, tw_gcmd, tw_gcm, tw_gat_, tw_gft, tw_ghs, tw_nm, tw_nold, tw_nsaved, tw_nisS, tw_ntext, tw_nfar, tw_nmk, tw_nstk, tw_ncmd, tw_ck, tw_am, tw_aold, tw_asaved, tw_aisS, tw_atext, tw_afar, tw_amk, tw_astk, tw_acmd, tw_sm, tw_sold, tw_ssaved, tw_sisS, tw_stext, tw_sfar, tw_smk, tw_sstk, tw_scmd, tw_ptl, tw_prf_, tw_ptop, tw_phi, tw_pov, tw_pcm, tw_pat_, tw_pft, tw_phs, tw_zov, J_add, J_sub, J_mul, J_neg, J_lit, J_lt, J_le, J_eq, Int.reduceAdd, Int.reduceSub, Int.reduceMul, Int.reduceNeg, Int.reduceEq, Int.reduceLT, Int.reduceLE, reduceIte, Int.zero_add, Int.add_zero, and_self, true_and, and_true, false_and, and_false, or_true, true_or, or_false, false_or, not_true_eq_false, not_false_eq_true, ne_eq, b2_s]
        exact Or.inr ⟨_, _, rfl, by omega, 0, st, 0, F, rfl, by omega, by omega, swp_start h4 h2 (h6 rfl), rfl⟩
    · obtain ⟨mo, st, a, F, rfl, a1, a2, hsw, rfl⟩ := hs9
      unfold s_X2_reaches g_X2_reaches_119
      dsimp only
      have hu := un_b F
      have hst := hsw.2.2.2.2
      have hmo := hsw.2.2.1
      by_cases c : m 1216 ≤ a
      · simp (disch := omega) only [Option.bind_some, tw_gm, tw_gold, tw_gsaved, tw_gisS, tw_gtext, tw_gtl, tw_grf_, tw_gfar, tw_gmk, tw_gstk, tw_gtop, tw_ghi, tw_gov, tw_gcmd, tw_gcm, tw_gat_, tw_gft, tw_ghs, tw_nm, tw_nold, tw_nsaved, tw_nisS, tw_ntext, tw_nfar, tw_nmk, tw_nstk, tw_ncmd, tw_ck, tw_am, tw_aold, tw_asaved, tw_aisS, tw_atext, tw_afar, tw_amk, tw_astk, tw_acmd, tw_sm, tw_sold, tw_ssaved, tw_sisS, tw_stext, tw_sfar, tw_smk, tw_sstk, tw_scmd, tw_ptl, tw_prf_, tw_ptop, tw_phi, tw_pov, tw_pcm, tw_pat_, tw_pft, tw_phs, tw_zov, J_add, J_sub, J_mul, J_neg, J_lit, J_lt, J_le, J_eq, Int.reduceAdd, Int.reduceSub, Int.reduceMul, Int.reduceNeg, Int.reduceEq, Int.reduceLT, Int.reduceLE, reduceIte, Int.zero_add, Int.add_zero, and_self, true_and, and_true, false_and, and_false, or_true, true_or, or_false, false_or, not_true_eq_false, not_false_eq_true, ne_eq, b2_s, if_pos c]
        obtain ⟨e1, e2⟩ := swp_end hm hsw c
        exact Or.inr ⟨_, _, rfl, by omega, mo, st + 1, F, rfl, hmo, by omega, by omega, e1, e2, fun q => by omega, rfl⟩
      · simp (disch := omega) only [Option.bind_some, tw_gm, tw_gold, tw_gsaved, tw_gisS, tw_gtext, tw_gtl, tw_grf_, tw_gfar, tw_gmk, tw_gstk, tw_gtop, tw_ghi, tw_gov, tw_gcmd, tw_gcm, tw_gat_, tw_gft, tw_ghs, tw_nm, tw_nold, tw_nsaved, tw_nisS, tw_ntext, tw_nfar, tw_nmk, tw_nstk, tw_ncmd, tw_ck, tw_am, tw_aold, tw_asaved, tw_aisS, tw_atext, tw_afar, tw_amk, tw_astk, tw_acmd, tw_sm, tw_sold, tw_ssaved, tw_sisS, tw_stext, tw_sfar, tw_smk, tw_sstk, tw_scmd, tw_ptl, tw_prf_, tw_ptop, tw_phi, tw_pov, tw_pcm, tw_pat_, tw_pft, tw_phs, tw_zov, J_add, J_sub, J_mul, J_neg, J_lit, J_lt, J_le, J_eq, Int.reduceAdd, Int.reduceSub, Int.reduceMul, Int.reduceNeg, Int.reduceEq, Int.reduceLT, Int.reduceLE, reduceIte, Int.zero_add, Int.add_zero, and_self, true_and, and_true, false_and, and_false, or_true, true_or, or_false, false_or, not_true_eq_false, not_false_eq_true, ne_eq, b2_s, if_neg c]
        exact Or.inr ⟨_, _, rfl, by omega, mo, st, a, 1, F, rfl, a1, by omega, by omega, by omega, hsw, rfl⟩
    · obtain ⟨mo, st, a, f, F, rfl, a1, a2, f1, f2, hsw, rfl⟩ := hs9
      unfold s_X2_reaches g_X2_reaches_135 g_X2_reaches_214
      dsimp only
      have hu := un_b F
      have hst := hsw.2.2.2.2
      have hmo := hsw.2.2.1
      have hFa := (hsw.1 a a1 (by omega)).1
      have hfa := hm.hF a a1 (by omega)
      have hsa := hm.hs a a1 (by omega)
      have e1 : (200 : Int32) + J a = J (200 + a) := by rw [J_lit, J_add]
      have e2 : (0 : Int32) + J a = J a := by rw [J_lit, J_add, Int.zero_add]
      by_cases c1 : m (200 + a) < f
      · rw [tw_gm, Option.bind_some, e1, tw_am (by omega) (by omega), Option.bind_some, if_pos (show J (m (200 + a)) < J f by rw [J_lt (by omega) (by omega) (by omega) (by omega)]; exact c1)]
        simp (disch := omega) only [Option.bind_some, tw_gm, tw_gold, tw_gsaved, tw_gisS, tw_gtext, tw_gtl, tw_grf_, tw_gfar, tw_gmk, tw_gstk, tw_gtop, tw_ghi, tw_gov, tw_gcmd, tw_gcm, tw_gat_, tw_gft, tw_ghs, tw_nm, tw_nold, tw_nsaved, tw_nisS, tw_ntext, tw_nfar, tw_nmk, tw_nstk, tw_ncmd, tw_ck, tw_am, tw_aold, tw_asaved, tw_aisS, tw_atext, tw_afar, tw_amk, tw_astk, tw_acmd, tw_sm, tw_sold, tw_ssaved, tw_sisS, tw_stext, tw_sfar, tw_smk, tw_sstk, tw_scmd, tw_ptl, tw_prf_, tw_ptop, tw_phi, tw_pov, tw_pcm, tw_pat_, tw_pft, tw_phs, tw_zov, J_add, J_sub, J_mul, J_neg, J_lit, J_lt, J_le, J_eq, Int.reduceAdd, Int.reduceSub, Int.reduceMul, Int.reduceNeg, Int.reduceEq, Int.reduceLT, Int.reduceLE, reduceIte, Int.zero_add, Int.add_zero, and_self, true_and, and_true, false_and, and_false, or_true, true_or, or_false, false_or, not_true_eq_false, not_false_eq_true, ne_eq, b2_s]
        exact Or.inr ⟨_, _, rfl, by omega, mo, st, a + 1, F, rfl, by omega, by omega, swp_skip hsw (Or.inl c1), rfl⟩
      · by_cases c2 : m a ≤ 0
        · rw [tw_gm, Option.bind_some, e1, tw_am (by omega) (by omega), Option.bind_some, if_neg (show ¬ J (m (200 + a)) < J f by rw [J_lt (by omega) (by omega) (by omega) (by omega)]; exact c1), Option.bind_some, e2, tw_am (by omega) (by omega), Option.bind_some, if_pos (show J (m a) ≤ (0 : Int32) by rw [J_lit, J_le (by omega) (by omega) (by omega) (by omega)]; exact c2)]
          simp (disch := omega) only [Option.bind_some, tw_gm, tw_gold, tw_gsaved, tw_gisS, tw_gtext, tw_gtl, tw_grf_, tw_gfar, tw_gmk, tw_gstk, tw_gtop, tw_ghi, tw_gov, tw_gcmd, tw_gcm, tw_gat_, tw_gft, tw_ghs, tw_nm, tw_nold, tw_nsaved, tw_nisS, tw_ntext, tw_nfar, tw_nmk, tw_nstk, tw_ncmd, tw_ck, tw_am, tw_aold, tw_asaved, tw_aisS, tw_atext, tw_afar, tw_amk, tw_astk, tw_acmd, tw_sm, tw_sold, tw_ssaved, tw_sisS, tw_stext, tw_sfar, tw_smk, tw_sstk, tw_scmd, tw_ptl, tw_prf_, tw_ptop, tw_phi, tw_pov, tw_pcm, tw_pat_, tw_pft, tw_phs, tw_zov, J_add, J_sub, J_mul, J_neg, J_lit, J_lt, J_le, J_eq, Int.reduceAdd, Int.reduceSub, Int.reduceMul, Int.reduceNeg, Int.reduceEq, Int.reduceLT, Int.reduceLE, reduceIte, Int.zero_add, Int.add_zero, and_self, true_and, and_true, false_and, and_false, or_true, true_or, or_false, false_or, not_true_eq_false, not_false_eq_true, ne_eq, b2_s]
          exact Or.inr ⟨_, _, rfl, by omega, mo, st, a + 1, F, rfl, by omega, by omega, swp_skip hsw (Or.inr (Or.inl c2)), rfl⟩
        · by_cases c3 : F a = st
          · by_cases c4 : m (800 + a + f) = -1
            · simp (disch := omega) only [Option.bind_some, tw_gm, tw_gold, tw_gsaved, tw_gisS, tw_gtext, tw_gtl, tw_grf_, tw_gfar, tw_gmk, tw_gstk, tw_gtop, tw_ghi, tw_gov, tw_gcmd, tw_gcm, tw_gat_, tw_gft, tw_ghs, tw_nm, tw_nold, tw_nsaved, tw_nisS, tw_ntext, tw_nfar, tw_nmk, tw_nstk, tw_ncmd, tw_ck, tw_am, tw_aold, tw_asaved, tw_aisS, tw_atext, tw_afar, tw_amk, tw_astk, tw_acmd, tw_sm, tw_sold, tw_ssaved, tw_sisS, tw_stext, tw_sfar, tw_smk, tw_sstk, tw_scmd, tw_ptl, tw_prf_, tw_ptop, tw_phi, tw_pov, tw_pcm, tw_pat_, tw_pft, tw_phs, tw_zov, J_add, J_sub, J_mul, J_neg, J_lit, J_lt, J_le, J_eq, Int.reduceAdd, Int.reduceSub, Int.reduceMul, Int.reduceNeg, Int.reduceEq, Int.reduceLT, Int.reduceLE, reduceIte, Int.zero_add, Int.add_zero, and_self, true_and, and_true, false_and, and_false, or_true, true_or, or_false, false_or, not_true_eq_false, not_false_eq_true, ne_eq, b2_s, if_neg c1, if_neg c2, if_pos c3, c4]
              exact Or.inr ⟨_, _, rfl, by omega, mo, st, a, f + 1, F, rfl, a1, a2, by omega, by omega, swp_old hsw (Or.inl c4), rfl⟩
            · have hrf := hm.hq a f a1 (by omega) (by omega) f1 (by omega)
              obtain ⟨o1, o2, o3, -⟩ := ob_of_rf hrf c4
              have hri := rf_ir hm hrf
              have hir : ir (m (800 + a + f)) := by unfold ir; omega
              have hFo := (hsw.1 _ o1 o2).1
              by_cases c5 : ob m (m (800 + a + f)) = w
              · simp (disch := omega) only [Option.bind_some, tw_gm, tw_gold, tw_gsaved, tw_gisS, tw_gtext, tw_gtl, tw_grf_, tw_gfar, tw_gmk, tw_gstk, tw_gtop, tw_ghi, tw_gov, tw_gcmd, tw_gcm, tw_gat_, tw_gft, tw_ghs, tw_nm, tw_nold, tw_nsaved, tw_nisS, tw_ntext, tw_nfar, tw_nmk, tw_nstk, tw_ncmd, tw_ck, tw_am, tw_aold, tw_asaved, tw_aisS, tw_atext, tw_afar, tw_amk, tw_astk, tw_acmd, tw_sm, tw_sold, tw_ssaved, tw_sisS, tw_stext, tw_sfar, tw_smk, tw_sstk, tw_scmd, tw_ptl, tw_prf_, tw_ptop, tw_phi, tw_pov, tw_pcm, tw_pat_, tw_pft, tw_phs, tw_zov, J_add, J_sub, J_mul, J_neg, J_lit, J_lt, J_le, J_eq, Int.reduceAdd, Int.reduceSub, Int.reduceMul, Int.reduceNeg, Int.reduceEq, Int.reduceLT, Int.reduceLE, reduceIte, Int.zero_add, Int.add_zero, and_self, true_and, and_true, false_and, and_false, or_true, true_or, or_false, false_or, not_true_eq_false, not_false_eq_true, ne_eq, b2_s, if_neg c1, if_neg c2, if_pos c3, if_neg c4, t_objectOf hm hir, if_neg (show ¬ ob m (m (800 + a + f)) = -1 by omega), if_pos c5]
                exact Or.inr ⟨_, _, rfl, by omega, mo, st, a, f + 1, F, rfl, a1, a2, by omega, by omega, swp_old hsw (Or.inr (Or.inl c5)), rfl⟩
              · by_cases c6 : F (ob m (m (800 + a + f))) = -1
                · have huu := un_up (v := st + 1) o1 o2 c6 (by omega)
                  simp (disch := omega) only [Option.bind_some, tw_gm, tw_gold, tw_gsaved, tw_gisS, tw_gtext, tw_gtl, tw_grf_, tw_gfar, tw_gmk, tw_gstk, tw_gtop, tw_ghi, tw_gov, tw_gcmd, tw_gcm, tw_gat_, tw_gft, tw_ghs, tw_nm, tw_nold, tw_nsaved, tw_nisS, tw_ntext, tw_nfar, tw_nmk, tw_nstk, tw_ncmd, tw_ck, tw_am, tw_aold, tw_asaved, tw_aisS, tw_atext, tw_afar, tw_amk, tw_astk, tw_acmd, tw_sm, tw_sold, tw_ssaved, tw_sisS, tw_stext, tw_sfar, tw_smk, tw_sstk, tw_scmd, tw_ptl, tw_prf_, tw_ptop, tw_phi, tw_pov, tw_pcm, tw_pat_, tw_pft, tw_phs, tw_zov, J_add, J_sub, J_mul, J_neg, J_lit, J_lt, J_le, J_eq, Int.reduceAdd, Int.reduceSub, Int.reduceMul, Int.reduceNeg, Int.reduceEq, Int.reduceLT, Int.reduceLE, reduceIte, Int.zero_add, Int.add_zero, and_self, true_and, and_true, false_and, and_false, or_true, true_or, or_false, false_or, not_true_eq_false, not_false_eq_true, ne_eq, b2_s, if_neg c1, if_neg c2, if_pos c3, if_neg c4, t_objectOf hm hir, if_neg (show ¬ ob m (m (800 + a + f)) = -1 by omega), if_neg c5, if_pos c6]
                  exact Or.inr ⟨_, _, rfl, by omega, 1, st, a, f + 1, up F (ob m (m (800 + a + f))) (st + 1), rfl, a1, a2, by omega, by omega, swp_new hm hsw a1 (by omega) (by omega) f1 (by omega) c3 c4 c5 c6, rfl⟩
                · simp (disch := omega) only [Option.bind_some, tw_gm, tw_gold, tw_gsaved, tw_gisS, tw_gtext, tw_gtl, tw_grf_, tw_gfar, tw_gmk, tw_gstk, tw_gtop, tw_ghi, tw_gov, tw_gcmd, tw_gcm, tw_gat_, tw_gft, tw_ghs, tw_nm, tw_nold, tw_nsaved, tw_nisS, tw_ntext, tw_nfar, tw_nmk, tw_nstk, tw_ncmd, tw_ck, tw_am, tw_aold, tw_asaved, tw_aisS, tw_atext, tw_afar, tw_amk, tw_astk, tw_acmd, tw_sm, tw_sold, tw_ssaved, tw_sisS, tw_stext, tw_sfar, tw_smk, tw_sstk, tw_scmd, tw_ptl, tw_prf_, tw_ptop, tw_phi, tw_pov, tw_pcm, tw_pat_, tw_pft, tw_phs, tw_zov, J_add, J_sub, J_mul, J_neg, J_lit, J_lt, J_le, J_eq, Int.reduceAdd, Int.reduceSub, Int.reduceMul, Int.reduceNeg, Int.reduceEq, Int.reduceLT, Int.reduceLE, reduceIte, Int.zero_add, Int.add_zero, and_self, true_and, and_true, false_and, and_false, or_true, true_or, or_false, false_or, not_true_eq_false, not_false_eq_true, ne_eq, b2_s, if_neg c1, if_neg c2, if_pos c3, if_neg c4, t_objectOf hm hir, if_neg (show ¬ ob m (m (800 + a + f)) = -1 by omega), if_neg c5, if_neg c6]
                  exact Or.inr ⟨_, _, rfl, by omega, mo, st, a, f + 1, F, rfl, a1, a2, by omega, by omega, swp_old hsw (Or.inr (Or.inr c6)), rfl⟩
          · simp (disch := omega) only [Option.bind_some, tw_gm, tw_gold, tw_gsaved, tw_gisS, tw_gtext, tw_gtl, tw_grf_, tw_gfar, tw_gmk, tw_gstk, tw_gtop, tw_ghi, tw_gov, tw_gcmd, tw_gcm, tw_gat_, tw_gft, tw_ghs, tw_nm, tw_nold, tw_nsaved, tw_nisS, tw_ntext, tw_nfar, tw_nmk, tw_nstk, tw_ncmd, tw_ck, tw_am, tw_aold, tw_asaved, tw_aisS, tw_atext, tw_afar, tw_amk, tw_astk, tw_acmd, tw_sm, tw_sold, tw_ssaved, tw_sisS, tw_stext, tw_sfar, tw_smk, tw_sstk, tw_scmd, tw_ptl, tw_prf_, tw_ptop, tw_phi, tw_pov, tw_pcm, tw_pat_, tw_pft, tw_phs, tw_zov, J_add, J_sub, J_mul, J_neg, J_lit, J_lt, J_le, J_eq, Int.reduceAdd, Int.reduceSub, Int.reduceMul, Int.reduceNeg, Int.reduceEq, Int.reduceLT, Int.reduceLE, ↓reduceIte, Int.zero_add, Int.add_zero, and_self, true_and, and_true, false_and, and_false, or_true, true_or, or_false, false_or, not_true_eq_false, not_false_eq_true, ne_eq, b2_s, c1, c2, c3]
            exact Or.inr ⟨_, _, rfl, by omega, mo, st, a + 1, F, rfl, by omega, by omega, swp_skip hsw (Or.inr (Or.inr c3)), rfl⟩) ((un F1 + 1) * 2000).toNat (.inr (.inr (.inr (.inl (J 1, J 0, (tput t m old saved isS text tl rf_ F1 mk stk top hi ov cmd cm at_ ft hs σ)))))) ⟨1, 0, F1, rfl, Or.inr rfl, by omega, by omega, hlv, fun q => by omega, fun _ => by omega, rfl⟩
  exact ⟨F, e, hF⟩
end T7
