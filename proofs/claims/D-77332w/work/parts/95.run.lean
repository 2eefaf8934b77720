/-! PLAIN LAW: run on both sides. NAMES: TSM LCB kx_prfk j_run -/
set_option maxRecDepth 100000
def TSM (t : Nat) (m saved isS text : Int → Int) (tl rf_ : Int) (cmd : Int → Int) (cm : Int) (μ M : mm_M) : Prop := ∃ (old far mk stk : Int → Int) (top hi ov at_ ft : Int) (hs : Int64), M = (tput t m old saved isS text tl rf_ far mk stk top hi ov cmd cm at_ ft hs μ)
/-- a list of commands, outside the component -/
def LCB (l : Nat) (cs : List (Int × Int × Int × Int)) (D0 : Nat → Int × Int) (σ0 : mm_M) : Prop := ∃ (el : Nat → Option Nat) (Z : Nat → Prop), LS9 l cs.length el Z σ0 ∧ (∀ b, Z b → (D0 b).1 = -1 ∧ b < σ0.2.1) ∧ ∀ (i : Nat) c, cs[i]? = some c → ∃ y, el i = some y ∧ (D0 y).1 = -1 ∧ y < σ0.2.1 ∧ σ0.1 y = some (cmO c)
theorem kx_isErr {r : Int} {σ : mm_M} (h : RNG r) : f_X0_isError (J r) σ = some (J (if -1000002 < r then 0 else 1)) := by
  unfold f_X0_isError
  unfold RNG ERR at h
  have e1 : ((-1000002 : Int32)) = J (-1000002) := rfl
  have e2 : ((-1000003 : Int32)) = J (-1000003) := rfl
  have e3 : ((-1000004 : Int32)) = J (-1000004) := rfl
  rw [e1, e2, e3]
  by_cases c : -1000002 < r
  · rw [if_pos c, if_neg (by rw [J_eq (by omega) (by omega) (by omega) (by omega)]; omega), if_neg (by rw [J_eq (by omega) (by omega) (by omega) (by omega)]; omega), if_neg (by rw [J_eq (by omega) (by omega) (by omega) (by omega)]; omega)]
    rfl
  · rw [if_neg c]
    have h' : ERR r := by unfold ERR; omega
    rcases h' with rfl | rfl | rfl
    · rw [if_pos rfl]; rfl
    · rw [if_neg (by decide), if_pos rfl]; rfl
    · rw [if_neg (by decide), if_neg (by decide), if_pos rfl]; rfl
section T1
variable {m : Int → Int} {txk : Int → Int} {tlk rfk : Int} {slk : Nat → Option Nat} {hsk : Int64} {σ0 : mm_M} {D0 : Nat → Int × Int} {x : Nat} {M : mm_M}
theorem kx_prfk {v : Int} (h : OPK D0 σ0 x txk tlk rfk slk hsk m M) : ∃ M', pF M x 0 4 (vI (J v)) = some M' ∧ OPK D0 σ0 x txk tlk v slk hsk m M' := by
  obtain ⟨hd, D, G, adk, nfk, ndk, pnk, agk, mkk, flk, dtk, hwk, dpk, alk, cok, fek, rpk, rok, wek, plk, mok, eak, lnk, cpk, elk, owk, skk, σ, rfl, hQ, he, rfl⟩ := h
  exact ⟨_, cw_prfk hQ.hu hQ.xu, hd, D, G, adk, nfk, ndk, pnk, agk, mkk, flk, dtk, hwk, dpk, alk, cok, fek, rpk, rok, wek, plk, mok, eak, lnk, cpk, elk, owk, skk, σ, rfl, ⟨⟨hQ.hu, hQ.xu, hQ.km⟩, ⟨hQ.db, hQ.ce, hQ.le, hQ.ca⟩, hQ.uq, hQ.rp⟩, he, rfl⟩
theorem kx_grfk (h : OPK D0 σ0 x txk tlk rfk slk hsk m M) : gI M x 0 4 = some (J rfk) := by
  obtain ⟨hd, D, G, adk, nfk, ndk, pnk, agk, mkk, flk, dtk, hwk, dpk, alk, cok, fek, rpk, rok, wek, plk, mok, eak, lnk, cpk, elk, owk, skk, σ, rfl, hQ, he, rfl⟩ := h
  exact cw_grfk hQ.xu
/-- the list under the component's calls -/
theorem LCB.get {l : Nat} {cs : List (Int × Int × Int × Int)} (hL : LCB l cs D0 σ0) (h : OPK D0 σ0 x txk tlk rfk slk hsk m M) : ck M l 15 = some () ∧ f_J2_size l M = some (J cs.length) ∧ ∀ (i : Nat) c, cs[i]? = some c → ∃ y, f_J2_get l (J i) M = some (some y) ∧ M.1 y = some (cmO c) := by
  obtain ⟨el, Z, a1, a2, a3⟩ := hL
  obtain ⟨o1, o2, o3⟩ := h.out
  have hl := a1.mono (μ' := M) (fun b q1 q2 => o3 b q2 (a2 b q1).1) o1 o2
  refine ⟨hl.ck, hl.size, fun i c hc => ?_⟩
  obtain ⟨y, y1, y2, y3, y4⟩ := a3 i c hc
  have hi := (List.getElem?_eq_some_iff.mp hc).1
  exact ⟨y, hl.get (by omega) (by omega) (by rw [Int.toNat_natCast]; exact y1), by rw [o3 y y3 y2]; exact y4⟩
end T1
set_option maxHeartbeats 1000000 in
theorem j_runs {t : Nat} {saved isS text : Int → Int} {tl : Int} {cmd : Int → Int} {μ : mm_M} (cs : List (Int × Int × Int × Int)) (hcs : ∀ c, c ∈ cs → CMB c) (hlen : cs.length ≤ 40) (hk : ∀ (i : Nat) c, cs[i]? = some c → CMK cmd i c) : ∀ (n i : Nat) (m : Int → Int) (MT : mm_M), i + n = cs.length → WF m → TSM t m saved isS text tl 0 cmd cs.length μ MT → ∃ res m' rf' MT', lpx (s_X2_run t) (J i, J i, MT) = some (J res, MT') ∧ TSM t m' saved isS text tl rf' cmd cs.length μ MT' ∧ WF m' ∧ ∀ (txk : Int → Int) (tlk : Int) (slk : Nat → Option Nat) (hsk : Int64) (D0 : Nat → Int × Int) (σ0 : mm_M) (x l : Nat) (M : mm_M), OPK D0 σ0 x txk tlk 0 slk hsk m M → LCB l cs D0 σ0 → ∃ M', lpx (s_X0_run x) (l, J i, 332 + 4 * i, 12106 + 268 * i, M) = some (J res, M') ∧ OPK D0 σ0 x txk tlk rf' slk hsk m' M' := by
  intro n
  induction n with
  | zero =>
    intro i m MT hi hm hT
    have hi' : i = cs.length := by omega
    refine ⟨i, m, 0, MT, ?_, hT, hm, ?_⟩
    · obtain ⟨old, far, mk, stk, top, hi9, ov, at_, ft, hs, rfl⟩ := hT
      refine lpx_d ?_
      unfold s_X2_run g_X2_run_20
      dsimp only
      rw [tw_gcm, Option.bind_some, if_pos (by rw [J_le (by omega) (by omega) (by omega) (by omega)]; omega)]
    · intro txk tlk slk hsk D0 σ0 x l M hO hL
      obtain ⟨g1, g2, g3⟩ := hL.get hO
      refine ⟨M, lpx_d ?_, hO⟩
      unfold s_X0_run g_X0_run_26
      dsimp only
      rw [grd_s (by omega), Option.bind_some, g1, Option.bind_some, g2, Option.bind_some, if_pos (by rw [J_le (by omega) (by omega) (by omega) (by omega)]; omega)]
  | succ n ih =>
    intro i m MT hi hm hT
    have hil : i < cs.length := by omega
    have hci : cs[i]? = some cs[i] := List.getElem?_eq_getElem hil
    generalize cs[i] = c at hci
    have hcb := hcs c (List.mem_of_getElem? hci)
    have hck := hk i c hci
    obtain ⟨old, far, mk, stk, top, hi9, ov, at_, ft, hs, hMT⟩ := hT
    obtain ⟨r, m1, F1, d1, d2, d3, d4, d5⟩ := j_does hm hcb hck (by omega) (by omega) (F := fun μ => tput t m old saved isS text tl 0 far mk stk top hi9 ov cmd cs.length at_ ft hs μ) ⟨old, far, mk, stk, top, hi9, ov, at_, ft, hs, rfl⟩
    have d1' : f_X2_does t (J i) MT = some (J r, F1 μ) := by rw [hMT]; exact d1 μ
    obtain ⟨old1, far1, mk1, stk1, top1, hi1, ov1, at1, ft1, hs1, hF1⟩ := d2
    have hle : ¬ (J (cs.length : Int) ≤ J (i : Int)) := by
      rw [J_le (by omega) (by omega) (by omega) (by omega)]; omega
    have e1 : ((-1000002 : Int32)) = J (-1000002) := rfl
    have hrr : -2147483648 ≤ r ∧ r < 2147483648 := by unfold RNG ERR at d4; omega
    have hlt : (J (-1000002) < J r) = (-1000002 < r) := by
      rw [J_lt (by omega) (by omega) (by omega) (by omega)]
    -- the twin's step
    have hT1 : ∀ v : Int, v = (if -1000002 < r then 0 else r) → lpx (s_X2_run t) (J i, J i, MT) = lpx (s_X2_run t) (J (if -1000002 < r then (i : Int) + 1 else i), J ((i : Int) + 1), tput t m1 old1 saved isS text tl v far1 mk1 stk1 top1 hi1 ov1 cmd cs.length at1 ft1 hs1 μ) := by
      intro v hv
      refine lpx_n ?_
      unfold s_X2_run g_X2_run_20
      dsimp only
      have hcm : gI MT t 2 14 = some (J cs.length) := by rw [hMT]; exact tw_gcm
      have hrf : gI MT t 2 6 = some (J 0) := by rw [hMT]; exact tw_grf_
      have hk2 : ck MT t 2 = some () := by rw [hMT]; exact tw_ck
      rw [hcm, Option.bind_some, if_neg hle, hrf, Option.bind_some, if_pos (show J 0 = 0 from rfl), hk2, Option.bind_some, d1', b2_s, e1]
      rw [hF1]
      dsimp only
      unfold g_X2_run_53
      by_cases c : -1000002 < r
      · rw [if_pos c] at hv
        rw [if_pos (by rw [hlt]; exact c), show (0 : Int32) = J 0 from rfl, tw_prf_, Option.bind_some, e1, if_pos (by rw [hlt]; exact c), if_pos c, hv, show (1 : Int32) = J 1 from J_lit 1, J_add]
      · rw [if_neg c] at hv
        rw [if_neg (by rw [hlt]; exact c), tw_prf_, Option.bind_some, e1, if_neg (by rw [hlt]; exact c), if_neg c, hv, show (1 : Int32) = J 1 from J_lit 1, show (0 : Int32) = J 0 from rfl, J_add, J_add, Int.add_zero]
    -- the component's step
    have hC1 : ∀ (txk : Int → Int) (tlk : Int) (slk : Nat → Option Nat) (hsk : Int64) (D0 : Nat → Int × Int) (σ0 : mm_M) (x l : Nat) (M : mm_M), OPK D0 σ0 x txk tlk 0 slk hsk m M → LCB l cs D0 σ0 → ∃ M', lpx (s_X0_run x) (l, J i, 332 + 4 * i, 12106 + 268 * i, M) = lpx (s_X0_run x) (l, J (if -1000002 < r then (i : Int) + 1 else i), 332 + 4 * (i + 1), 12106 + 268 * (i + 1), M') ∧ OPK D0 σ0 x txk tlk (if -1000002 < r then 0 else r) slk hsk m1 M' := by
      intro txk tlk slk hsk D0 σ0 x l M hO hL
      obtain ⟨g1, g2, g3⟩ := hL.get hO
      obtain ⟨y, y1, y2⟩ := g3 i c hci
      obtain ⟨M1, o1, o2⟩ := d5 txk tlk 0 slk hsk D0 σ0 x M y hO y2
      obtain ⟨M2, p1, p2⟩ := kx_prfk (v := if -1000002 < r then 0 else r) o2
      refine ⟨M2, lpx_n ?_, p2⟩
      have hcC : ckC M y = some () := by
        obtain ⟨k, vs, q1, q2, q3⟩ := cmO_ok c
        unfold ckC
        rw [y2, q1]
        dsimp only
        rw [if_pos ⟨q2, q3⟩]
      unfold s_X0_run g_X0_run_26
      dsimp only
      rw [grd_s (by omega), Option.bind_some, g1, Option.bind_some, g2, Option.bind_some, if_neg hle, kx_grfk hO, Option.bind_some, if_pos (show J 0 = 0 from rfl), Option.bind_some, y1, Option.bind_some, Option.bind_some, hcC, Option.bind_some, grd_s (by omega), Option.bind_some, o1, b2_s, kx_isErr d4, Option.bind_some]
      unfold g_X0_run_69
      by_cases c : -1000002 < r
      · rw [if_pos c] at p1
        rw [if_pos c, if_pos c, if_pos (show J 0 = 0 from rfl), grd_s (by omega), Option.bind_some, show (0 : Int32) = J 0 from rfl, p1, Option.bind_some, kx_isErr d4, Option.bind_some, if_pos c, if_pos (show J 0 = J 0 from rfl), show (1 : Int32) = J 1 from J_lit 1, J_add]
        rfl
      · rw [if_neg c] at p1
        rw [if_neg c, if_neg c, if_neg (show ¬ J 1 = 0 by decide), grd_s (by omega), Option.bind_some, p1, Option.bind_some, kx_isErr d4, Option.bind_some, if_neg c, if_neg (show ¬ J 1 = 0 by decide), show (0 : Int32) = J 0 from rfl, J_add, Int.add_zero]
        rfl
    by_cases c : -1000002 < r
    · obtain ⟨res, m', rf', MT', k1, k2, k3, k4⟩ := ih (i + 1) m1 (tput t m1 old1 saved isS text tl 0 far1 mk1 stk1 top1 hi1 ov1 cmd cs.length at1 ft1 hs1 μ) (by omega) d3 ⟨old1, far1, mk1, stk1, top1, hi1, ov1, at1, ft1, hs1, rfl⟩
      refine ⟨res, m', rf', MT', ?_, k2, k3, ?_⟩
      · rw [hT1 0 (by rw [if_pos c]), if_pos c]
        exact k1
      · intro txk tlk slk hsk D0 σ0 x l M hO hL
        obtain ⟨M1, p1, p2⟩ := hC1 txk tlk slk hsk D0 σ0 x l M hO hL
        rw [if_pos c] at p1 p2
        obtain ⟨M', q1, q2⟩ := k4 txk tlk slk hsk D0 σ0 x l M1 p2 hL
        exact ⟨M', p1.trans q1, q2⟩
    · have hr0 : ¬ (J r = 0) := by
        rw [show (0 : Int32) = J 0 from rfl, J_eq (by omega) (by omega) (by omega) (by omega)]
        omega
      refine ⟨i, m1, r, tput t m1 old1 saved isS text tl r far1 mk1 stk1 top1 hi1 ov1 cmd cs.length at1 ft1 hs1 μ, ?_, ⟨old1, far1, mk1, stk1, top1, hi1, ov1, at1, ft1, hs1, rfl⟩, d3, ?_⟩
      · rw [hT1 r (by rw [if_neg c]), if_neg c]
        refine lpx_d ?_
        unfold s_X2_run g_X2_run_20
        dsimp only
        rw [tw_gcm, Option.bind_some, tw_grf_, Option.bind_some, if_neg hr0, ite_self]
      · intro txk tlk slk hsk D0 σ0 x l M hO hL
        obtain ⟨M1, p1, p2⟩ := hC1 txk tlk slk hsk D0 σ0 x l M hO hL
        rw [if_neg c] at p1 p2
        refine ⟨M1, ?_, p2⟩
        rw [p1]
        obtain ⟨g1, g2, g3⟩ := hL.get p2
        refine lpx_d ?_
        unfold s_X0_run g_X0_run_26
        dsimp only
        rw [grd_s (by omega), Option.bind_some, g1, Option.bind_some, g2, Option.bind_some, if_neg hle, kx_grfk p2, Option.bind_some, if_neg hr0]
section T4
variable {m hd : Int → Int} {adk nfk ndk pnk agk mkk rok wek plk txk : Int → Int} {flk dtk : Int → Int → Int} {hwk dpk alk cok fek lnk tlk rfk : Int} {rpk : Option Nat} {mok : Int32} {eak cpk : Nat} {elk owk skk slk : Nat → Option Nat} {hsk : Int64} {D : Nat → Int × Int} {G : Int → Int → Nat} {σ : mm_M}
theorem OLD9.opk (h : (CG m hd D G adk nfk ndk pnk agk mkk flk dtk hwk dpk alk cok fek rpk rok wek plk mok eak lnk cpk elk owk skk txk tlk rfk slk hsk σ)) {μ : mm_M} (o : OLD9 (cput D (cel G adk nfk ndk pnk agk mkk flk dtk hwk dpk alk cok fek rpk rok wek plk mok eak lnk cpk elk owk skk txk tlk rfk slk hsk) σ) μ) : EX D σ D μ ∧ (CG m hd D G adk nfk ndk pnk agk mkk flk dtk hwk dpk alk cok fek rpk rok wek plk mok eak lnk cpk elk owk skk txk tlk rfk slk hsk μ) ∧ μ = (cput D (cel G adk nfk ndk pnk agk mkk flk dtk hwk dpk alk cok fek rpk rok wek plk mok eak lnk cpk elk owk skk txk tlk rfk slk hsk) μ) := by
  have hH := OLD9.hld h.db o
  have he : EX D σ D μ := ⟨o.1, o.2.1, fun b b1 b2 => ⟨b2, by rw [o.2.2 b b1, cput_o b2]⟩, fun b b1 => Or.inl b1, OLD9.db h.db o⟩
  exact ⟨he, h.st he, hH.eq⟩
theorem kc_runF (h : (CG m hd D G adk nfk ndk pnk agk mkk flk dtk hwk dpk alk cok fek rpk rok wek plk mok eak lnk cpk elk owk skk txk tlk rfk slk hsk σ)) (ht : tx9 txk tlk) {e : Int} (hR : rdP txk tlk 80 (bk9 txk tlk 0) [] = .inl e) : ∃ M', f_X0_run (G 3 7) (cput D (cel G adk nfk ndk pnk agk mkk flk dtk hwk dpk alk cok fek rpk rok wek plk mok eak lnk cpk elk owk skk txk tlk rfk slk hsk) σ) = some (J (-1000003), M') ∧ OPK D σ (G 3 7) txk tlk rfk slk hsk m M' := by
  obtain ⟨μ, e1, e2⟩ := kr_begin h
  have hr := kr_read h.xu ht h.db h.ce e2
  have hn : nO (cput D (cel G adk nfk ndk pnk agk mkk flk dtk hwk dpk alk cok fek rpk rok wek plk mok eak lnk cpk elk owk skk txk tlk rfk slk hsk) σ) 7 df_7 = some (σ.2.1, (cput D (cel G adk nfk ndk pnk agk mkk flk dtk hwk dpk alk cok fek rpk rok wek plk mok eak lnk cpk elk owk skk txk tlk rfk slk hsk) (nE σ (.inl (7, df_7))))) := ko_nO (kr_new h.db)
  have hck : ck μ σ.2.1 7 = some () := by
    obtain ⟨el, Z, z1, z2, ⟨z3, z4, z5, z6⟩, z7, z8⟩ := e2
    exact ck_at z3
  obtain ⟨q, M', r1, r2, r3⟩ := hr.1 e hR
  obtain ⟨o1, o2, o3⟩ := OLD9.opk h r2
  refine ⟨M', ?_, ?_⟩
  · unfold f_X0_run g_X0_run_0
    rw [grd_s (by omega), Option.bind_some, hn, b2_s, grd_s (by omega), Option.bind_some, e1, Option.bind_some, hck, Option.bind_some, grd_s (by omega), Option.bind_some, r1, b2_s, kr_xr, ck_at r3, Option.bind_some]
    rfl
  · rw [o3]
    exact OPK.of o1 rfl o2
theorem kc_runG (h : (CG m hd D G adk nfk ndk pnk agk mkk flk dtk hwk dpk alk cok fek rpk rok wek plk mok eak lnk cpk elk owk skk txk tlk rfk slk hsk σ)) (ht : tx9 txk tlk) {cs : List (Int × Int × Int × Int)} (hR : rdP txk tlk 80 (bk9 txk tlk 0) [] = .inr cs) : ∃ (l : Nat) (σ1 M1 : mm_M), f_X0_run (G 3 7) (cput D (cel G adk nfk ndk pnk agk mkk flk dtk hwk dpk alk cok fek rpk rok wek plk mok eak lnk cpk elk owk skk txk tlk rfk slk hsk) σ) = lpx (s_X0_run (G 3 7)) (l, J 0, 332, 12106, M1) ∧ EX D σ D σ1 ∧ OPK D σ1 (G 3 7) txk tlk 0 slk hsk m M1 ∧ LCB l cs D σ1 := by
  obtain ⟨μ, e1, e2⟩ := kr_begin h
  have hr := kr_read h.xu ht h.db h.ce e2
  have hn : nO (cput D (cel G adk nfk ndk pnk agk mkk flk dtk hwk dpk alk cok fek rpk rok wek plk mok eak lnk cpk elk owk skk txk tlk rfk slk hsk) σ) 7 df_7 = some (σ.2.1, (cput D (cel G adk nfk ndk pnk agk mkk flk dtk hwk dpk alk cok fek rpk rok wek plk mok eak lnk cpk elk owk skk txk tlk rfk slk hsk) (nE σ (.inl (7, df_7))))) := ko_nO (kr_new h.db)
  have hck : ck μ σ.2.1 7 = some () := by
    obtain ⟨el, Z, z1, z2, ⟨z3, z4, z5, z6⟩, z7, z8⟩ := e2
    exact ck_at z3
  obtain ⟨a', μ', r1, r2⟩ := hr.2 cs hR
  obtain ⟨el, Z, z1, z2, ⟨z3, z4, z5, z6⟩, z7, z8⟩ := r2
  obtain ⟨o1, o2, o3⟩ := OLD9.opk h z2
  have hout := kc_out h
  have hO : OPK D μ' (G 3 7) txk tlk rfk slk hsk m μ' := by
    have := OPK.id o2
    rwa [← o3] at this
  obtain ⟨M1, p1, p2⟩ := kx_prfk (v := 0) hO
  refine ⟨σ.2.1 + 1, μ', M1, ?_, o1, p2, el, Z, z1, fun b hb => ⟨hout b (z7 b hb).1, (z7 b hb).2⟩, fun i c hc => ?_⟩
  · unfold f_X0_run g_X0_run_0
    rw [grd_s (by omega), Option.bind_some, hn, b2_s, grd_s (by omega), Option.bind_some, e1, Option.bind_some, hck, Option.bind_some, grd_s (by omega), Option.bind_some, r1, b2_s, kr_xl, show (0 : Int32) = J 0 from rfl, p1, Option.bind_some, lgo_l]
  · obtain ⟨y, y1, y2, y3, y4, y5, y6⟩ := z8 i c hc
    exact ⟨y, y1, hout y y2, y3, y6⟩
end T4
section T5
variable {t : Nat} {m saved isS text : Int → Int} {tl rf_ : Int} {cmd : Int → Int} {cm : Int} {μ MT : mm_M}
theorem j_fault (hx : tx9 text tl) (hT : TSM t m saved isS text tl rf_ cmd cm μ MT) : ∃ r MT' cmd' cm', f_X2_fault t MT = some (J r, MT') ∧ TSM t m saved isS text tl rf_ cmd' cm' μ MT' ∧ ∀ (rfk : Int) (slk : Nat → Option Nat) (hsk : Int64) (D0 : Nat → Int × Int) (σ0 : mm_M) (x : Nat) (M : mm_M), OPK D0 σ0 x text tl rfk slk hsk m M → ∃ M', f_X0_fault x M = some (J r, M') ∧ OPK D0 σ0 x text tl rfk slk hsk m M' := by
  obtain ⟨old, far, mk, stk, top, hi, ov, at_, ft, hs, rfl⟩ := hT
  obtain ⟨a', ft', cm', cmd', e1, e2, e3, e4⟩ := tm_fault (t := t) (m := m) (old := old) (saved := saved) (isS := isS) (text := text) (tl := tl) (rf_ := rf_) (far := far) (mk := mk) (stk := stk) (top := top) (hi := hi) (ov := ov) (cmd := cmd) (cm := cm) (at_ := at_) (ft := ft) (hs := hs) (σ := μ) hx
  refine ⟨ft', _, cmd', cm', e1, ⟨old, far, mk, stk, top, hi, ov, a', ft', hs, rfl⟩, ?_⟩
  intro rfk slk hsk D0 σ0 x M hO
  obtain ⟨hd, D, G, adk, nfk, ndk, pnk, agk, mkk, flk, dtk, hwk, dpk, alk, cok, fek, rpk, rok, wek, plk, mok, eak, lnk, cpk, elk, owk, skk, σ, rfl, hQ, he, rfl⟩ := hO
  obtain ⟨M', f1, f2⟩ := kc_fault hQ hx
  obtain ⟨o1, o2, o3⟩ := OLD9.opk hQ f2
  refine ⟨M', ?_, ?_⟩
  · rw [f1]
    cases hR : rdP text tl 80 (bk9 text tl 0) [] with
    | inl e => rw [(e3 e hR).1]
    | inr r => rw [(e4 r hR).1]
  · rw [o3]
    exact OPK.of (he.tr o1) rfl o2
theorem j_run (hm : WF m) (hx : tx9 text tl) (hT : TSM t m saved isS text tl rf_ cmd cm μ MT) : ∃ r m' rf' MT' cmd' cm', f_X2_run t MT = some (J r, MT') ∧ TSM t m' saved isS text tl rf' cmd' cm' μ MT' ∧ WF m' ∧ ∀ (slk : Nat → Option Nat) (hsk : Int64) (D0 : Nat → Int × Int) (σ0 : mm_M) (x : Nat) (M : mm_M), OPK D0 σ0 x text tl rf_ slk hsk m M → ∃ M', f_X0_run x M = some (J r, M') ∧ OPK D0 σ0 x text tl rf' slk hsk m' M' := by
  obtain ⟨old, far, mk, stk, top, hi, ov, at_, ft, hs, rfl⟩ := hT
  have h80 := hx.2.1
  obtain ⟨a', ft', cm', cmd', e1, e2, e3, e4⟩ := tm_fault (t := t) (m := m) (old := old) (saved := saved) (isS := isS) (text := text) (tl := tl) (rf_ := rf_) (far := far) (mk := mk) (stk := stk) (top := top) (hi := hi) (ov := ov) (cmd := cmd) (cm := cm) (at_ := at_) (ft := ft) (hs := hs) (σ := μ) hx
  have e9 : ((-1 : Int32)) = J (-1) := rfl
  cases hR : rdP text tl 80 (bk9 text tl 0) [] with
  | inl e =>
    obtain ⟨z1, z2⟩ := e3 e hR
    refine ⟨-1000003, m, rf_, _, cmd', cm', ?_, ⟨old, far, mk, stk, top, hi, ov, a', ft', hs, rfl⟩, hm, ?_⟩
    · unfold f_X2_run g_X2_run_0
      rw [tw_ck, Option.bind_some, e1, b2_s, e9, if_neg (by rw [J_eq (by omega) (by omega) (by omega) (by omega)]; omega)]
      rfl
    · intro slk hsk D0 σ0 x M hO
      obtain ⟨hd, D, G, adk, nfk, ndk, pnk, agk, mkk, flk, dtk, hwk, dpk, alk, cok, fek, rpk, rok, wek, plk, mok, eak, lnk, cpk, elk, owk, skk, σ, rfl, hQ, he, rfl⟩ := hO
      obtain ⟨M', f1, f2⟩ := kc_runF hQ hx hR
      exact ⟨M', f1, f2.tr he⟩
  | inr cs =>
    obtain ⟨z1, z2, z3⟩ := e4 cs hR
    have hb0 := bk9_b (text := text) (tl := tl) (a := 0) hx.1
    obtain ⟨b1, b2⟩ := rdP_b 80 (bk9 text tl 0) [] cs hb0.1 h80 (fun c hc => by cases hc) (by simpa using hb0.1) hb0.2 hR
    subst z1
    subst z2
    obtain ⟨res, m', rf', MT', k1, k2, k3, k4⟩ := j_runs (t := t) (saved := saved) (isS := isS) (text := text) (tl := tl) (cmd := cmd') (μ := μ) cs b1 (by omega) z3 cs.length 0 m (tput t m old saved isS text tl 0 far mk stk top hi ov cmd' cs.length a' (-1) hs μ) (by omega) hm ⟨old, far, mk, stk, top, hi, ov, a', -1, hs, rfl⟩
    refine ⟨res, m', rf', MT', cmd', cs.length, ?_, k2, k3, ?_⟩
    · unfold f_X2_run g_X2_run_0
      rw [tw_ck, Option.bind_some, e1, b2_s, e9, if_pos rfl, show (0 : Int32) = J 0 from rfl, tw_prf_, Option.bind_some, lgo_l]
      exact k1
    · intro slk hsk D0 σ0 x M hO
      obtain ⟨hd, D, G, adk, nfk, ndk, pnk, agk, mkk, flk, dtk, hwk, dpk, alk, cok, fek, rpk, rok, wek, plk, mok, eak, lnk, cpk, elk, owk, skk, σ, rfl, hQ, he, rfl⟩ := hO
      obtain ⟨l, σ1, M1, f1, f2, f3, f4⟩ := kc_runG hQ hx hR
      obtain ⟨M', g1, g2⟩ := k4 text tl slk hsk D σ1 (G 3 7) l M1 f3 f4
      exact ⟨M', f1.trans g1, (g2.tr f2).tr he⟩
end T5
