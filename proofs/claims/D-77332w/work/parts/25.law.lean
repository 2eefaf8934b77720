/-! THE LAW'S BODY: its function and its walk -/
set_option maxRecDepth 100000
/-- the script -/
def sl (L : Nat) (xs : Nat → Int32) (i : Int32) : Option Int32 := if 0 ≤ i.toInt ∧ i.toInt < L then some (xs i.toNatClampNeg) else none
section LW
variable {p : Program} {l : Launch} {e : Env} {R : Room} {s : State} {m : MethodId} {args : Array Value} {below : List Frame} {meth : Method} {c : Code} {H : Heap} {locs : List Loc} {cells slots : Nat} {Q : State → Prop}
variable {cc : ByteArray} {pc nL : Nat} {ls : Array Slot} {rest st0 : List Value} {own : String} {G : mm_G} {σ σ' : mm_M} {bq L : Nat} {xs : Nat → Int32}
theorem mm_sld (F : mm_F p s m args c own cc nL G) (hH : mm_H G s σ H locs) (hX : va_X bq L xs s s.heap) (hb0 : bq < s.heap.size ∧ ¬ mm_A G bq) {i v : Int32} (hv : sl L xs i = some v) (hdg : decode cc pc = .ok (.iaload, 1))
    (kk : W p l e R s m args below meth c H locs cells slots Q (F0 m (pc + 1) ls (.int v :: rest))) : W p l e R s m args below meth c H locs cells slots Q (F0 m pc ls (.int i :: .ref bq :: rest)) := by
  unfold sl at hv
  split at hv
  · rename_i hc
    cases hv
    exact va_sld F.1 F.2.1 hX hb0.1 hb0.2 hH.2 (mm_in hc) hdg kk
  · cases hv
theorem mm_slen (F : mm_F p s m args c own cc nL G) (hH : mm_H G s σ H locs) (hX : va_X bq L xs s s.heap) (hb0 : bq < s.heap.size ∧ ¬ mm_A G bq) (hdg : decode cc pc = .ok (.arraylength, 1))
    (kk : W p l e R s m args below meth c H locs cells slots Q (F0 m (pc + 1) ls (.int (Int32.ofNat L) :: rest))) : W p l e R s m args below meth c H locs cells slots Q (F0 m pc ls (.ref bq :: rest)) :=
  va_slen F.1 F.2.1 hX hb0.1 hb0.2 hH.2 hdg kk
end LW
/-! IslandHeapLaw.law -/
noncomputable def g_L_law_457 (L : Nat) (xs : Nat → Int32) (a1 : Nat) (a2 : Nat) (x3 : Int32) (t0 : Nat) (t1 : Int32) (t2 : Int32) (cn cs : Nat) (σ : mm_M) : Option (((Nat × Nat × Int32 × Nat × Nat × mm_M)) ⊕ (mm_M)) :=
  (grd (cn ≤ 1200128 ∧ cs ≤ 5501098)).bind fun _ =>
  (ck σ t0 0).bind fun _ =>
  b2 (f_X0_pin t0 t1 t2 σ) fun v1 σ2 =>
  (sl L xs (x3 + (1 : Int32))).bind fun v3 =>
  (sl L xs (x3 + (2 : Int32))).bind fun v4 =>
  if v4 = 0 then (
    (ck σ2 a2 2).bind fun _ =>
    b2 (f_X2_pin a2 v3 (0 : Int32) σ2) fun v6 σ7 =>
    if v1 = v6 then (
      some (.inl (a1, a2, (x3 + (4 : Int32)), cn, cs, σ7)))
    else (
      none))
  else (
    (ck σ2 a2 2).bind fun _ =>
    b2 (f_X2_pin a2 v3 (1 : Int32) σ2) fun v9 σ10 =>
    if v1 = v9 then (
      some (.inl (a1, a2, (x3 + (4 : Int32)), cn, cs, σ10)))
    else (
      none))
noncomputable def g_L_law_18 (L : Nat) (xs : Nat → Int32) (a1 : Nat) (a2 : Nat) (x3 : Int32)  (cn cs : Nat) (σ : mm_M) : Option (((Nat × Nat × Int32 × Nat × Nat × mm_M)) ⊕ (mm_M)) :=
  (grd (cn ≤ 1200128 ∧ cs ≤ 5501098)).bind fun _ =>
  if ((Int32.ofNat L) - (4 : Int32)) < x3 then (
    some (.inr σ))
  else (
    (sl L xs x3).bind fun v2 =>
    if (v2 &&& (31 : Int32)) = (0 : Int32) then (
      (sl L xs (x3 + (1 : Int32))).bind fun v32 =>
      (sl L xs (x3 + (2 : Int32))).bind fun v33 =>
      (ck σ a1 0).bind fun _ =>
      (grd ((cn + 6) ≤ 1200128 ∧ (cs + 424) ≤ 5501098)).bind fun _ =>
      b2 (f_X0_reset a1 v32 v33 σ) fun v34 σ35 =>
      (sl L xs (x3 + (1 : Int32))).bind fun v36 =>
      (sl L xs (x3 + (2 : Int32))).bind fun v37 =>
      (ck σ35 a2 2).bind fun _ =>
      b2 (f_X2_reset a2 v36 v37 σ35) fun v38 σ39 =>
      if v34 = v38 then (
        some (.inl (a1, a2, (x3 + (4 : Int32)), (cn + 6), (cs + 424), σ39)))
      else (
        none))
    else (
      if (v2 &&& (31 : Int32)) = (1 : Int32) then (
        (sl L xs (x3 + (1 : Int32))).bind fun v41 =>
        (sl L xs (x3 + (2 : Int32))).bind fun v42 =>
        (ck σ a1 0).bind fun _ =>
        (grd ((cn + 4) ≤ 1200128 ∧ (cs + 268) ≤ 5501098)).bind fun _ =>
        b2 (f_X0_alloc a1 v41 v42 σ) fun v43 σ44 =>
        (sl L xs (x3 + (1 : Int32))).bind fun v45 =>
        (sl L xs (x3 + (2 : Int32))).bind fun v46 =>
        (ck σ44 a2 2).bind fun _ =>
        b2 (f_X2_alloc a2 v45 v46 σ44) fun v47 σ48 =>
        if v43 = v47 then (
          some (.inl (a1, a2, (x3 + (4 : Int32)), (cn + 4), (cs + 268), σ48)))
        else (
          none))
      else (
        if (v2 &&& (31 : Int32)) = (2 : Int32) then (
          (sl L xs (x3 + (1 : Int32))).bind fun v50 =>
          (sl L xs (x3 + (2 : Int32))).bind fun v51 =>
          (ck σ a1 0).bind fun _ =>
          (grd ((cn + 1) ≤ 1200128 ∧ (cs + 8) ≤ 5501098)).bind fun _ =>
          b2 (f_X0_object a1 v50 v51 σ) fun v52 σ53 =>
          (sl L xs (x3 + (1 : Int32))).bind fun v54 =>
          (sl L xs (x3 + (2 : Int32))).bind fun v55 =>
          (ck σ53 a2 2).bind fun _ =>
          b2 (f_X2_object a2 v54 v55 σ53) fun v56 σ57 =>
          if v52 = v56 then (
            some (.inl (a1, a2, (x3 + (4 : Int32)), (cn + 1), (cs + 8), σ57)))
          else (
            none))
        else (
          if (v2 &&& (31 : Int32)) = (3 : Int32) then (
            (sl L xs (x3 + (1 : Int32))).bind fun v59 =>
            (ck σ a1 0).bind fun _ =>
            (f_X0_next a1 v59 σ).bind fun v60 =>
            (sl L xs (x3 + (1 : Int32))).bind fun v61 =>
            (ck σ a2 2).bind fun _ =>
            (f_X2_next a2 v61 σ).bind fun v62 =>
            if v60 = v62 then (
              some (.inl (a1, a2, (x3 + (4 : Int32)), cn, cs, σ)))
            else (
              none))
          else (
            if (v2 &&& (31 : Int32)) = (4 : Int32) then (
              (sl L xs (x3 + (1 : Int32))).bind fun v64 =>
              (sl L xs (x3 + (2 : Int32))).bind fun v65 =>
              (sl L xs (x3 + (3 : Int32))).bind fun v66 =>
              (ck σ a1 0).bind fun _ =>
              b2 (f_X0_setField a1 v64 v65 v66 σ) fun v67 σ68 =>
              (sl L xs (x3 + (1 : Int32))).bind fun v69 =>
              (sl L xs (x3 + (2 : Int32))).bind fun v70 =>
              (sl L xs (x3 + (3 : Int32))).bind fun v71 =>
              (ck σ68 a2 2).bind fun _ =>
              b2 (f_X2_setField a2 v69 v70 v71 σ68) fun v72 σ73 =>
              if v67 = v72 then (
                some (.inl (a1, a2, (x3 + (4 : Int32)), cn, cs, σ73)))
              else (
                none))
            else (
              if (v2 &&& (31 : Int32)) = (5 : Int32) then (
                (sl L xs (x3 + (1 : Int32))).bind fun v75 =>
                (sl L xs (x3 + (2 : Int32))).bind fun v76 =>
                (ck σ a1 0).bind fun _ =>
                (f_X0_field a1 v75 v76 σ).bind fun v77 =>
                (sl L xs (x3 + (1 : Int32))).bind fun v78 =>
                (sl L xs (x3 + (2 : Int32))).bind fun v79 =>
                (ck σ a2 2).bind fun _ =>
                (f_X2_field a2 v78 v79 σ).bind fun v80 =>
                if v77 = v80 then (
                  some (.inl (a1, a2, (x3 + (4 : Int32)), cn, cs, σ)))
                else (
                  none))
              else (
                if (v2 &&& (31 : Int32)) = (6 : Int32) then (
                  (sl L xs (x3 + (1 : Int32))).bind fun v82 =>
                  (sl L xs (x3 + (2 : Int32))).bind fun v83 =>
                  (sl L xs (x3 + (3 : Int32))).bind fun v84 =>
                  (ck σ a1 0).bind fun _ =>
                  b2 (f_X0_setData a1 v82 v83 v84 σ) fun v85 σ86 =>
                  (sl L xs (x3 + (1 : Int32))).bind fun v87 =>
                  (sl L xs (x3 + (2 : Int32))).bind fun v88 =>
                  (sl L xs (x3 + (3 : Int32))).bind fun v89 =>
                  (ck σ86 a2 2).bind fun _ =>
                  b2 (f_X2_setData a2 v87 v88 v89 σ86) fun v90 σ91 =>
                  if v85 = v90 then (
                    some (.inl (a1, a2, (x3 + (4 : Int32)), cn, cs, σ91)))
                  else (
                    none))
                else (
                  if (v2 &&& (31 : Int32)) = (7 : Int32) then (
                    (sl L xs (x3 + (1 : Int32))).bind fun v93 =>
                    (sl L xs (x3 + (2 : Int32))).bind fun v94 =>
                    (ck σ a1 0).bind fun _ =>
                    (f_X0_data a1 v93 v94 σ).bind fun v95 =>
                    (sl L xs (x3 + (1 : Int32))).bind fun v96 =>
                    (sl L xs (x3 + (2 : Int32))).bind fun v97 =>
                    (ck σ a2 2).bind fun _ =>
                    (f_X2_data a2 v96 v97 σ).bind fun v98 =>
                    if v95 = v98 then (
                      some (.inl (a1, a2, (x3 + (4 : Int32)), cn, cs, σ)))
                    else (
                      none))
                  else (
                    if (v2 &&& (31 : Int32)) = (8 : Int32) then (
                      (sl L xs (x3 + (1 : Int32))).bind fun v100 =>
                      (sl L xs (x3 + (2 : Int32))).bind fun v101 =>
                      if v101 = 0 then (
                        g_L_law_457 L xs a1 a2 x3 a1 v100 (0 : Int32) cn cs σ)
                      else (
                        g_L_law_457 L xs a1 a2 x3 a1 v100 (1 : Int32) cn cs σ))
                    else (
                      if (v2 &&& (31 : Int32)) = (9 : Int32) then (
                        (sl L xs (x3 + (1 : Int32))).bind fun v103 =>
                        (sl L xs (x3 + (2 : Int32))).bind fun v104 =>
                        (ck σ a1 0).bind fun _ =>
                        b2 (f_X0_setRoot a1 v103 v104 σ) fun v105 σ106 =>
                        (sl L xs (x3 + (1 : Int32))).bind fun v107 =>
                        (sl L xs (x3 + (2 : Int32))).bind fun v108 =>
                        (ck σ106 a2 2).bind fun _ =>
                        b2 (f_X2_setRoot a2 v107 v108 σ106) fun v109 σ110 =>
                        if v105 = v109 then (
                          some (.inl (a1, a2, (x3 + (4 : Int32)), cn, cs, σ110)))
                        else (
                          none))
                      else (
                        if (v2 &&& (31 : Int32)) = (10 : Int32) then (
                          (sl L xs (x3 + (1 : Int32))).bind fun v112 =>
                          (ck σ a1 0).bind fun _ =>
                          (f_X0_root a1 v112 σ).bind fun v113 =>
                          (sl L xs (x3 + (1 : Int32))).bind fun v114 =>
                          (ck σ a2 2).bind fun _ =>
                          (f_X2_root a2 v114 σ).bind fun v115 =>
                          if v113 = v115 then (
                            some (.inl (a1, a2, (x3 + (4 : Int32)), cn, cs, σ)))
                          else (
                            none))
                        else (
                          if (v2 &&& (31 : Int32)) = (11 : Int32) then (
                            (sl L xs (x3 + (1 : Int32))).bind fun v117 =>
                            (sl L xs (x3 + (2 : Int32))).bind fun v118 =>
                            (ck σ a1 0).bind fun _ =>
                            b2 (f_X0_setWeak a1 v117 v118 σ) fun v119 σ120 =>
                            (sl L xs (x3 + (1 : Int32))).bind fun v121 =>
                            (sl L xs (x3 + (2 : Int32))).bind fun v122 =>
                            (ck σ120 a2 2).bind fun _ =>
                            b2 (f_X2_setWeak a2 v121 v122 σ120) fun v123 σ124 =>
                            if v119 = v123 then (
                              some (.inl (a1, a2, (x3 + (4 : Int32)), cn, cs, σ124)))
                            else (
                              none))
                          else (
                            if (v2 &&& (31 : Int32)) = (12 : Int32) then (
                              (sl L xs (x3 + (1 : Int32))).bind fun v126 =>
                              (ck σ a1 0).bind fun _ =>
                              (f_X0_weak a1 v126 σ).bind fun v127 =>
                              (sl L xs (x3 + (1 : Int32))).bind fun v128 =>
                              (ck σ a2 2).bind fun _ =>
                              (f_X2_weak a2 v128 σ).bind fun v129 =>
                              if v127 = v129 then (
                                some (.inl (a1, a2, (x3 + (4 : Int32)), cn, cs, σ)))
                              else (
                                none))
                            else (
                              if (v2 &&& (31 : Int32)) = (13 : Int32) then (
                                (ck σ a1 0).bind fun _ =>
                                (grd ((cn + 2) ≤ 1200128 ∧ (cs + 14) ≤ 5501098)).bind fun _ =>
                                b2 (f_X0_collect a1 σ) fun v131 σ132 =>
                                (ck σ132 a2 2).bind fun _ =>
                                b2 (f_X2_collect a2 σ132) fun v133 σ134 =>
                                if v131 = v133 then (
                                  some (.inl (a1, a2, (x3 + (4 : Int32)), (cn + 2), (cs + 14), σ134)))
                                else (
                                  none))
                              else (
                                if (v2 &&& (31 : Int32)) = (14 : Int32) then (
                                  (sl L xs (x3 + (1 : Int32))).bind fun v136 =>
                                  (ck σ a1 0).bind fun _ =>
                                  (f_X0_moved a1 v136 σ).bind fun v137 =>
                                  (sl L xs (x3 + (1 : Int32))).bind fun v138 =>
                                  (ck σ a2 2).bind fun _ =>
                                  (f_X2_moved a2 v138 σ).bind fun v139 =>
                                  if v137 = v139 then (
                                    some (.inl (a1, a2, (x3 + (4 : Int32)), cn, cs, σ)))
                                  else (
                                    none))
                                else (
                                  if (v2 &&& (31 : Int32)) = (15 : Int32) then (
                                    (sl L xs (x3 + (1 : Int32))).bind fun v141 =>
                                    (ck σ a1 0).bind fun _ =>
                                    (f_X0_report a1 v141 σ).bind fun v142 =>
                                    (sl L xs (x3 + (1 : Int32))).bind fun v143 =>
                                    (ck σ a2 2).bind fun _ =>
                                    (f_X2_report a2 v143 σ).bind fun v144 =>
                                    if v142 = v144 then (
                                      some (.inl (a1, a2, (x3 + (4 : Int32)), cn, cs, σ)))
                                    else (
                                      none))
                                  else (
                                    if (v2 &&& (31 : Int32)) = (16 : Int32) then (
                                      (ck σ a1 0).bind fun _ =>
                                      (grd ((cn + 1) ≤ 1200128 ∧ (cs + 8) ≤ 5501098)).bind fun _ =>
                                      b2 (f_X0_garbage a1 σ) fun v146 σ147 =>
                                      (ck σ147 a2 2).bind fun _ =>
                                      b2 (f_X2_garbage a2 σ147) fun v148 σ149 =>
                                      if v146 = v148 then (
                                        some (.inl (a1, a2, (x3 + (4 : Int32)), (cn + 1), (cs + 8), σ149)))
                                      else (
                                        none))
                                    else (
                                      if (v2 &&& (31 : Int32)) = (17 : Int32) then (
                                        (sl L xs (x3 + (1 : Int32))).bind fun v151 =>
                                        (ck σ a1 0).bind fun _ =>
                                        (grd ((cn + 1) ≤ 1200128 ∧ (cs + 3) ≤ 5501098)).bind fun _ =>
                                        b2 (f_X0_distance a1 v151 σ) fun v152 σ153 =>
                                        (sl L xs (x3 + (1 : Int32))).bind fun v154 =>
                                        (ck σ153 a2 2).bind fun _ =>
                                        b2 (f_X2_distance a2 v154 σ153) fun v155 σ156 =>
                                        if v152 = v155 then (
                                          some (.inl (a1, a2, (x3 + (4 : Int32)), (cn + 1), (cs + 3), σ156)))
                                        else (
                                          none))
                                      else (
                                        if (v2 &&& (31 : Int32)) = (18 : Int32) then (
                                          (sl L xs (x3 + (1 : Int32))).bind fun v158 =>
                                          (ck σ a1 0).bind fun _ =>
                                          (grd ((cn + 2) ≤ 1200128 ∧ (cs + 16) ≤ 5501098)).bind fun _ =>
                                          b2 (f_X0_retained a1 v158 σ) fun v159 σ160 =>
                                          (sl L xs (x3 + (1 : Int32))).bind fun v161 =>
                                          (ck σ160 a2 2).bind fun _ =>
                                          b2 (f_X2_retained a2 v161 σ160) fun v162 σ163 =>
                                          if v159 = v162 then (
                                            some (.inl (a1, a2, (x3 + (4 : Int32)), (cn + 2), (cs + 16), σ163)))
                                          else (
                                            none))
                                        else (
                                          if (v2 &&& (31 : Int32)) = (19 : Int32) then (
                                            (sl L xs (x3 + (1 : Int32))).bind fun v165 =>
                                            (ck σ a1 0).bind fun _ =>
                                            (f_X0_free a1 v165 σ).bind fun v166 =>
                                            (sl L xs (x3 + (1 : Int32))).bind fun v167 =>
                                            (ck σ a2 2).bind fun _ =>
                                            (f_X2_free a2 v167 σ).bind fun v168 =>
                                            if v166 = v168 then (
                                              some (.inl (a1, a2, (x3 + (4 : Int32)), cn, cs, σ)))
                                            else (
                                              none))
                                          else (
                                            if (v2 &&& (31 : Int32)) = (20 : Int32) then (
                                              (sl L xs (x3 + (1 : Int32))).bind fun v170 =>
                                              (ck σ a1 0).bind fun _ =>
                                              b2 (f_X0_type a1 v170 σ) fun v171 σ172 =>
                                              (sl L xs (x3 + (1 : Int32))).bind fun v173 =>
                                              (ck σ172 a2 2).bind fun _ =>
                                              b2 (f_X2_type a2 v173 σ172) fun v174 σ175 =>
                                              if v171 = v174 then (
                                                some (.inl (a1, a2, (x3 + (4 : Int32)), cn, cs, σ175)))
                                              else (
                                                none))
                                            else (
                                              if (v2 &&& (31 : Int32)) = (21 : Int32) then (
                                                (ck σ a1 0).bind fun _ =>
                                                b2 (f_X0_clearText a1 σ) fun v177 σ178 =>
                                                (ck σ178 a2 2).bind fun _ =>
                                                b2 (f_X2_clearText a2 σ178) fun v179 σ180 =>
                                                if v177 = v179 then (
                                                  some (.inl (a1, a2, (x3 + (4 : Int32)), cn, cs, σ180)))
                                                else (
                                                  none))
                                              else (
                                                if (v2 &&& (31 : Int32)) = (22 : Int32) then (
                                                  (ck σ a1 0).bind fun _ =>
                                                  (grd ((cn + 332) ≤ 1200128 ∧ (cs + 12106) ≤ 5501098)).bind fun _ =>
                                                  b2 (f_X0_fault a1 σ) fun v182 σ183 =>
                                                  (ck σ183 a2 2).bind fun _ =>
                                                  b2 (f_X2_fault a2 σ183) fun v184 σ185 =>
                                                  if v182 = v184 then (
                                                    some (.inl (a1, a2, (x3 + (4 : Int32)), (cn + 332), (cs + 12106), σ185)))
                                                  else (
                                                    none))
                                                else (
                                                  if (v2 &&& (31 : Int32)) = (23 : Int32) then (
                                                    (ck σ a1 0).bind fun _ =>
                                                    (grd ((cn + 500) ≤ 1200128 ∧ (cs + 24000) ≤ 5501098)).bind fun _ =>
                                                    b2 (f_X0_run a1 σ) fun v187 σ188 =>
                                                    (ck σ188 a2 2).bind fun _ =>
                                                    b2 (f_X2_run a2 σ188) fun v189 σ190 =>
                                                    if v187 = v189 then (
                                                      some (.inl (a1, a2, (x3 + (4 : Int32)), (cn + 500), (cs + 24000), σ190)))
                                                    else (
                                                      none))
                                                  else (
                                                    if (v2 &&& (31 : Int32)) = (24 : Int32) then (
                                                      (ck σ a1 0).bind fun _ =>
                                                      (f_X0_refusal a1 σ).bind fun v192 =>
                                                      (ck σ a2 2).bind fun _ =>
                                                      (f_X2_refusal a2 σ).bind fun v193 =>
                                                      if v192 = v193 then (
                                                        some (.inl (a1, a2, (x3 + (4 : Int32)), cn, cs, σ)))
                                                      else (
                                                        none))
                                                    else (
                                                      if (v2 &&& (31 : Int32)) = (25 : Int32) then (
                                                        (sl L xs (x3 + (1 : Int32))).bind fun v195 =>
                                                        (ck σ a1 0).bind fun _ =>
                                                        (grd ((cn + 901) ≤ 1200128 ∧ (cs + 55011) ≤ 5501098)).bind fun _ =>
                                                        b2 (f_X0_save a1 v195 σ) fun v196 σ197 =>
                                                        (sl L xs (x3 + (1 : Int32))).bind fun v198 =>
                                                        (ck σ197 a2 2).bind fun _ =>
                                                        b2 (f_X2_save a2 v198 σ197) fun v199 σ200 =>
                                                        if v196 = v199 then (
                                                          some (.inl (a1, a2, (x3 + (4 : Int32)), (cn + 901), (cs + 55011), σ200)))
                                                        else (
                                                          none))
                                                      else (
                                                        if (v2 &&& (31 : Int32)) = (26 : Int32) then (
                                                          (sl L xs (x3 + (1 : Int32))).bind fun v202 =>
                                                          (ck σ a1 0).bind fun _ =>
                                                          (grd ((cn + 901) ≤ 1200128 ∧ (cs + 55011) ≤ 5501098)).bind fun _ =>
                                                          b2 (f_X0_restore a1 v202 σ) fun v203 σ204 =>
                                                          (sl L xs (x3 + (1 : Int32))).bind fun v205 =>
                                                          (ck σ204 a2 2).bind fun _ =>
                                                          b2 (f_X2_restore a2 v205 σ204) fun v206 σ207 =>
                                                          if v203 = v206 then (
                                                            some (.inl (a1, a2, (x3 + (4 : Int32)), (cn + 901), (cs + 55011), σ207)))
                                                          else (
                                                            none))
                                                        else (
                                                          if (v2 &&& (31 : Int32)) = (27 : Int32) then (
                                                            (sl L xs (x3 + (1 : Int32))).bind fun v209 =>
                                                            (ck σ a1 0).bind fun _ =>
                                                            (f_X0_count a1 v209 σ).bind fun v210 =>
                                                            (sl L xs (x3 + (1 : Int32))).bind fun v211 =>
                                                            (ck σ a2 2).bind fun _ =>
                                                            (f_X2_count a2 v211 σ).bind fun v212 =>
                                                            if v210 = v212 then (
                                                              some (.inl (a1, a2, (x3 + (4 : Int32)), cn, cs, σ)))
                                                            else (
                                                              none))
                                                          else (
                                                            if (v2 &&& (31 : Int32)) = (28 : Int32) then (
                                                              (ck σ a1 0).bind fun _ =>
                                                              (grd ((cn + 1700) ≤ 1200128 ∧ (cs + 13000) ≤ 5501098)).bind fun _ =>
                                                              b2 (f_X0_digest a1 σ) fun w214 σ215 =>
                                                              (ck σ215 a2 2).bind fun _ =>
                                                              b2 (f_X2_digest a2 σ215) fun w216 σ217 =>
                                                              if (lg_cmp w214 w216) = 0 then (
                                                                some (.inl (a1, a2, (x3 + (4 : Int32)), (cn + 1700), (cs + 13000), σ217)))
                                                              else (
                                                                none))
                                                            else (
                                                              some (.inl (a1, a2, (x3 + (4 : Int32)), cn, cs, σ))))))))))))))))))))))))))))))))
noncomputable def g_L_law_0 (L : Nat) (xs : Nat → Int32)   (σ : mm_M) : Option (((Nat × Nat × Int32 × Nat × Nat × mm_M)) ⊕ (mm_M)) :=
  (grd ((0 + 1) ≤ 1200128 ∧ (0 + 7) ≤ 5501098)).bind fun _ =>
  b2 (nO σ 0 df_0) fun q2 σ1 =>
  (grd (((0 + 1) + 9) ≤ 1200128 ∧ ((0 + 7) + 706) ≤ 5501098)).bind fun _ =>
  (f_X0_init q2 σ1).bind fun σ3 =>
  (grd ((((0 + 1) + 9) + 1) ≤ 1200128 ∧ (((0 + 7) + 706) + 18) ≤ 5501098)).bind fun _ =>
  b2 (nO σ3 2 df_2) fun q5 σ4 =>
  (grd (((((0 + 1) + 9) + 1) + 9) ≤ 1200128 ∧ ((((0 + 7) + 706) + 18) + 5550) ≤ 5501098)).bind fun _ =>
  (f_X2_init q5 σ4).bind fun σ6 =>
  some (.inl (q2, q5, (0 : Int32), ((((0 + 1) + 9) + 1) + 9), ((((0 + 7) + 706) + 18) + 5550), σ6))
noncomputable def s_L_law (L : Nat) (xs : Nat → Int32) : (Nat × Nat × Int32 × Nat × Nat × mm_M) → Option (((Nat × Nat × Int32 × Nat × Nat × mm_M)) ⊕ (mm_M)) := fun s => g_L_law_18 L xs s.1 s.2.1 s.2.2.1 s.2.2.2.1 s.2.2.2.2.1 s.2.2.2.2.2
noncomputable def f_L_law (L : Nat) (xs : Nat → Int32) (σ : mm_M) : Option (mm_M) := lgo (s_L_law L xs) (g_L_law_0 L xs σ)

set_option maxHeartbeats 4000000 in
theorem w_L_law_457 {p : Program} {l : Launch} {e : Env} {s : State} {m : MethodId} {av : Array Value} {below : List Frame} {meth : Method} {c : Code} {G : mm_G} {Q : State → Prop} {bq : Nat} {σf : mm_M} {n : Nat} {L : Nat} {xs : Nat → Int32} (F : mm_F p s m av c "IslandHeapLaw" cL_law 4 G) (hX : va_X bq L xs s s.heap) (hb0 : bq < s.heap.size ∧ ¬ mm_A G bq) (hend : ∀ (H : Heap) (ls : Array Slot) (locs : List Loc), (∀ q ∈ locs, mm_A G q.base) → W p l e room_1 s m av below meth c H locs 1200128 5501098 Q (F0 m 905 ls [.int 1])) (IH18 : ∀ (a1 : Nat) (a2 : Nat) (x3 : Int32) (cn cs : Nat) (σ : mm_M) (H : Heap) (locs : List Loc) (ls : Array Slot), mm_H G s σ H locs → lv_has ls 4 [(0, .ref bq), (1, .ref a1), (2, .ref a2), (3, .int x3)] → itn (s_L_law L xs) n (a1, a2, x3, cn, cs, σ) = some σf → W p l e room_1 s m av below meth c H locs cn cs Q (F0 m 18 ls []))  (a1 : Nat) (a2 : Nat) (x3 : Int32) (t0 : Nat) (t1 : Int32) (t2 : Int32) (cn cs : Nat) (σ : mm_M) (hf : evn (s_L_law L xs) n (g_L_law_457 L xs a1 a2 x3 t0 t1 t2 cn cs σ) = some σf) {H : Heap} {locs : List Loc} {ls : Array Slot} (hH : mm_H G s σ H locs) (hl : lv_has ls 4 [(0, .ref bq), (1, .ref a1), (2, .ref a2), (3, .int x3)]) : W p l e room_1 s m av below meth c H locs cn cs Q (F0 m 457 ls [.int t2, .int t1, .ref t0]) := by
  have hx := F.1
  have hb := F.2.1
  have hml := F.2.2.1
  have hown := F.2.2.2.1
  have hts := F.2.2.2.2.1
  unfold g_L_law_457 at hf
  replace hf := evn_b1 hf
  obtain ⟨u, e0, hf⟩ := hf
  have hg := grd_i e0
  replace hf := evn_b1 hf
  obtain ⟨u, e1, hf⟩ := hf
  obtain ⟨fs, ek⟩ := ck_i e1
  replace hf := evn_b2 hf
  obtain ⟨v1, σ2, e2, hf⟩ := hf
  refine mm_ci (va_runV (As := [.int t1, .int t2]) (rest := []) ⟨hx, hb, hml, hown, hts⟩ (m_X0_pin l G t0 t1 t2 σ σ2 v1 e2) (cwV 2 hts (lw_V q551 q552 q553 q62 q554) rfl rfl rfl (by decide +kernel) ⟨Nat.le_of_ble_eq_true rfl, Nat.le_of_ble_eq_true rfl⟩) (mm_preV F.2.2.2.2.2 hH (ci := 0) rfl ek) rfl rfl hl.1 rfl (lv_room (Nat.le_of_ble_eq_true rfl)) dL_law_457 hg) hH (fun H locs hH => ?_)
  refine lv_aload_n hx hb dL_law_460 rfl (lv_at hl 2 rfl) ?_
  refine lv_aload_n hx hb dL_law_461 rfl (lv_at hl 0 rfl) ?_
  refine lv_iload_n hx hb dL_law_462 rfl (lv_at hl 3 rfl) ?_
  refine lv_iconst (v := 1) hx hb dL_law_463 (by decide) ?_
  refine lv_iadd hx hb dL_law_464 ?_
  replace hf := evn_b1 hf
  obtain ⟨v3, e3, hf⟩ := hf
  refine mm_sld F hH hX hb0 e3 dL_law_465 ?_
  refine lv_aload_n hx hb dL_law_466 rfl (lv_at hl 0 rfl) ?_
  refine lv_iload_n hx hb dL_law_467 rfl (lv_at hl 3 rfl) ?_
  refine lv_iconst (v := 2) hx hb dL_law_468 (by decide) ?_
  refine lv_iadd hx hb dL_law_469 ?_
  replace hf := evn_b1 hf
  obtain ⟨v4, e4, hf⟩ := hf
  refine mm_sld F hH hX hb0 e4 dL_law_470 ?_
  refine lv_if_eq (tgt := 478) hx hb dL_law_471 (by decide) (fun c5 => ?_) (fun c5 => ?_)
  · rw [if_pos c5] at hf
    refine lv_iconst (v := 0) hx hb dL_law_478 (by decide) ?_
    replace hf := evn_b1 hf
    obtain ⟨u, e5, hf⟩ := hf
    obtain ⟨fs, ek⟩ := ck_i e5
    replace hf := evn_b2 hf
    obtain ⟨v6, σ7, e6, hf⟩ := hf
    refine mm_ci (va_runV (As := [.int v3, .int (0 : Int32)]) (rest := [.int v1]) ⟨hx, hb, hml, hown, hts⟩ (m_X2_pin l G a2 v3 (0 : Int32) σ2 σ7 v6 e6) (cwV 2 hts (lw_V q1174 q1175 q1176 q67 q1177) rfl rfl rfl (by decide +kernel) ⟨Nat.le_of_ble_eq_true rfl, Nat.le_of_ble_eq_true rfl⟩) (mm_preV F.2.2.2.2.2 hH (ci := 2) rfl ek) rfl rfl hl.1 rfl (lv_room (Nat.le_of_ble_eq_true rfl)) dL_law_479 hg) hH (fun H locs hH => ?_)
    refine lv_icmp_eq (tgt := 898) hx hb dL_law_482 (by decide) (fun c8 => ?_) (fun c8 => ?_)
    · rw [if_pos c8] at hf
      refine lv_iinc (v := x3 + (4 : Int32)) (lv' := [(3, .int (x3 + (4 : Int32))), (0, .ref bq), (1, .ref a1), (2, .ref a2)]) hx hb dL_law_898 hl (k := 3) rfl rfl (by decide) rfl (fun ls hl => ?_)
      refine lv_goto (tgt := 18) hx hb dL_law_901 (by decide) ?_
      rw [evn_l] at hf
      exact IH18 a1 a2 (x3 + (4 : Int32)) cn cs σ7 _ _ _ hH (lv_sub hl [1, 2, 3, 0] rfl) hf
    · rw [if_neg c8] at hf
      refine lv_iconst (v := 0) hx hb dL_law_485 (by decide) ?_
      cases hf
  · rw [if_neg c5] at hf
    refine lv_iconst (v := 1) hx hb dL_law_474 (by decide) ?_
    refine lv_goto (tgt := 479) hx hb dL_law_475 (by decide) ?_
    replace hf := evn_b1 hf
    obtain ⟨u, e7, hf⟩ := hf
    obtain ⟨fs, ek⟩ := ck_i e7
    replace hf := evn_b2 hf
    obtain ⟨v9, σ10, e8, hf⟩ := hf
    refine mm_ci (va_runV (As := [.int v3, .int (1 : Int32)]) (rest := [.int v1]) ⟨hx, hb, hml, hown, hts⟩ (m_X2_pin l G a2 v3 (1 : Int32) σ2 σ10 v9 e8) (cwV 2 hts (lw_V q1174 q1175 q1176 q67 q1177) rfl rfl rfl (by decide +kernel) ⟨Nat.le_of_ble_eq_true rfl, Nat.le_of_ble_eq_true rfl⟩) (mm_preV F.2.2.2.2.2 hH (ci := 2) rfl ek) rfl rfl hl.1 rfl (lv_room (Nat.le_of_ble_eq_true rfl)) dL_law_479 hg) hH (fun H locs hH => ?_)
    refine lv_icmp_eq (tgt := 898) hx hb dL_law_482 (by decide) (fun c11 => ?_) (fun c11 => ?_)
    · rw [if_pos c11] at hf
      refine lv_iinc (v := x3 + (4 : Int32)) (lv' := [(3, .int (x3 + (4 : Int32))), (0, .ref bq), (1, .ref a1), (2, .ref a2)]) hx hb dL_law_898 hl (k := 3) rfl rfl (by decide) rfl (fun ls hl => ?_)
      refine lv_goto (tgt := 18) hx hb dL_law_901 (by decide) ?_
      rw [evn_l] at hf
      exact IH18 a1 a2 (x3 + (4 : Int32)) cn cs σ10 _ _ _ hH (lv_sub hl [1, 2, 3, 0] rfl) hf
    · rw [if_neg c11] at hf
      refine lv_iconst (v := 0) hx hb dL_law_485 (by decide) ?_
      cases hf
set_option maxHeartbeats 4000000 in
theorem w_L_law_18 {p : Program} {l : Launch} {e : Env} {s : State} {m : MethodId} {av : Array Value} {below : List Frame} {meth : Method} {c : Code} {G : mm_G} {Q : State → Prop} {bq : Nat} {σf : mm_M} {n : Nat} {L : Nat} {xs : Nat → Int32} (F : mm_F p s m av c "IslandHeapLaw" cL_law 4 G) (hX : va_X bq L xs s s.heap) (hb0 : bq < s.heap.size ∧ ¬ mm_A G bq) (hend : ∀ (H : Heap) (ls : Array Slot) (locs : List Loc), (∀ q ∈ locs, mm_A G q.base) → W p l e room_1 s m av below meth c H locs 1200128 5501098 Q (F0 m 905 ls [.int 1])) (IH18 : ∀ (a1 : Nat) (a2 : Nat) (x3 : Int32) (cn cs : Nat) (σ : mm_M) (H : Heap) (locs : List Loc) (ls : Array Slot), mm_H G s σ H locs → lv_has ls 4 [(0, .ref bq), (1, .ref a1), (2, .ref a2), (3, .int x3)] → itn (s_L_law L xs) n (a1, a2, x3, cn, cs, σ) = some σf → W p l e room_1 s m av below meth c H locs cn cs Q (F0 m 18 ls []))  (a1 : Nat) (a2 : Nat) (x3 : Int32)  (cn cs : Nat) (σ : mm_M) (hf : evn (s_L_law L xs) n (g_L_law_18 L xs a1 a2 x3 cn cs σ) = some σf) {H : Heap} {locs : List Loc} {ls : Array Slot} (hH : mm_H G s σ H locs) (hl : lv_has ls 4 [(0, .ref bq), (1, .ref a1), (2, .ref a2), (3, .int x3)]) : W p l e room_1 s m av below meth c H locs cn cs Q (F0 m 18 ls []) := by
  have hx := F.1
  have hb := F.2.1
  have hml := F.2.2.1
  have hown := F.2.2.2.1
  have hts := F.2.2.2.2.1
  unfold g_L_law_18 at hf
  replace hf := evn_b1 hf
  obtain ⟨u, e0, hf⟩ := hf
  have hg := grd_i e0
  refine lv_iload_n hx hb dL_law_18 rfl (lv_at hl 3 rfl) ?_
  refine lv_aload_n hx hb dL_law_19 rfl (lv_at hl 0 rfl) ?_
  refine mm_slen F hH hX hb0 dL_law_20 ?_
  refine lv_iconst (v := 4) hx hb dL_law_21 (by decide) ?_
  refine lv_isub hx hb dL_law_22 ?_
  refine lv_icmp_gt (tgt := 904) hx hb dL_law_23 (by decide) (fun c1 => ?_) (fun c1 => ?_)
  · rw [if_pos c1] at hf
    refine lv_iconst (v := 1) hx hb dL_law_904 (by decide) ?_
    rw [evn_r] at hf
    have h1 := Option.some.inj hf
    subst h1
    refine W.widen (k := 1200128) (n := 5501098) hg.1 hg.2 ?_
    exact hend _ _ _ hH.2.2.2
  · rw [if_neg c1] at hf
    refine lv_aload_n hx hb dL_law_26 rfl (lv_at hl 0 rfl) ?_
    refine lv_iload_n hx hb dL_law_27 rfl (lv_at hl 3 rfl) ?_
    replace hf := evn_b1 hf
    obtain ⟨v2, e1, hf⟩ := hf
    refine mm_sld F hH hX hb0 e1 dL_law_28 ?_
    refine lv_bipush (v := 31) hx hb dL_law_29 (by decide) ?_
    refine lv_iand hx hb dL_law_31 ?_
    by_cases c3 : (v2 &&& (31 : Int32)) = (0 : Int32)
    · rw [if_pos c3] at hf
      refine lv_tableIn (off := 132) (tgt := 164) hx hb dL_law_32 (by rw [c3]; decide) (by rw [c3]; decide) (by rw [c3]; rfl) (by decide) ?_
      refine lv_aload_n hx hb dL_law_164 rfl (lv_at hl 1 rfl) ?_
      refine lv_aload_n hx hb dL_law_165 rfl (lv_at hl 0 rfl) ?_
      refine lv_iload_n hx hb dL_law_166 rfl (lv_at hl 3 rfl) ?_
      refine lv_iconst (v := 1) hx hb dL_law_167 (by decide) ?_
      refine lv_iadd hx hb dL_law_168 ?_
      replace hf := evn_b1 hf
      obtain ⟨v32, e2, hf⟩ := hf
      refine mm_sld F hH hX hb0 e2 dL_law_169 ?_
      refine lv_aload_n hx hb dL_law_170 rfl (lv_at hl 0 rfl) ?_
      refine lv_iload_n hx hb dL_law_171 rfl (lv_at hl 3 rfl) ?_
      refine lv_iconst (v := 2) hx hb dL_law_172 (by decide) ?_
      refine lv_iadd hx hb dL_law_173 ?_
      replace hf := evn_b1 hf
      obtain ⟨v33, e3, hf⟩ := hf
      refine mm_sld F hH hX hb0 e3 dL_law_174 ?_
      replace hf := evn_b1 hf
      obtain ⟨u, e4, hf⟩ := hf
      obtain ⟨fs, ek⟩ := ck_i e4
      replace hf := evn_b1 hf
      obtain ⟨u, e5, hf⟩ := hf
      have hg := grd_i e5
      replace hf := evn_b2 hf
      obtain ⟨v34, σ35, e6, hf⟩ := hf
      refine mm_ci (va_runV (As := [.int v32, .int v33]) (rest := []) ⟨hx, hb, hml, hown, hts⟩ (m_X0_reset l G a1 v32 v33 σ σ35 v34 e6) (cwV 2 hts (lw_V q212 q213 q214 q62 q215) rfl rfl rfl (by decide +kernel) ⟨Nat.le_of_ble_eq_true rfl, Nat.le_of_ble_eq_true rfl⟩) (mm_preV F.2.2.2.2.2 hH (ci := 0) rfl ek) rfl rfl hl.1 rfl (lv_room (Nat.le_of_ble_eq_true rfl)) dL_law_175 hg) hH (fun H locs hH => ?_)
      refine lv_aload_n hx hb dL_law_178 rfl (lv_at hl 2 rfl) ?_
      refine lv_aload_n hx hb dL_law_179 rfl (lv_at hl 0 rfl) ?_
      refine lv_iload_n hx hb dL_law_180 rfl (lv_at hl 3 rfl) ?_
      refine lv_iconst (v := 1) hx hb dL_law_181 (by decide) ?_
      refine lv_iadd hx hb dL_law_182 ?_
      replace hf := evn_b1 hf
      obtain ⟨v36, e7, hf⟩ := hf
      refine mm_sld F hH hX hb0 e7 dL_law_183 ?_
      refine lv_aload_n hx hb dL_law_184 rfl (lv_at hl 0 rfl) ?_
      refine lv_iload_n hx hb dL_law_185 rfl (lv_at hl 3 rfl) ?_
      refine lv_iconst (v := 2) hx hb dL_law_186 (by decide) ?_
      refine lv_iadd hx hb dL_law_187 ?_
      replace hf := evn_b1 hf
      obtain ⟨v37, e8, hf⟩ := hf
      refine mm_sld F hH hX hb0 e8 dL_law_188 ?_
      replace hf := evn_b1 hf
      obtain ⟨u, e9, hf⟩ := hf
      obtain ⟨fs, ek⟩ := ck_i e9
      replace hf := evn_b2 hf
      obtain ⟨v38, σ39, e10, hf⟩ := hf
      refine mm_ci (va_runV (As := [.int v36, .int v37]) (rest := [.int v34]) ⟨hx, hb, hml, hown, hts⟩ (m_X2_reset l G a2 v36 v37 σ35 σ39 v38 e10) (cwV 2 hts (lw_V q1103 q1104 q1105 q67 q1106) rfl rfl rfl (by decide +kernel) ⟨Nat.le_of_ble_eq_true rfl, Nat.le_of_ble_eq_true rfl⟩) (mm_preV F.2.2.2.2.2 hH (ci := 2) rfl ek) rfl rfl hl.1 rfl (lv_room (Nat.le_of_ble_eq_true rfl)) dL_law_189 hg) hH (fun H locs hH => ?_)
      refine lv_icmp_eq (tgt := 898) hx hb dL_law_192 (by decide) (fun c40 => ?_) (fun c40 => ?_)
      · rw [if_pos c40] at hf
        refine lv_iinc (v := x3 + (4 : Int32)) (lv' := [(3, .int (x3 + (4 : Int32))), (0, .ref bq), (1, .ref a1), (2, .ref a2)]) hx hb dL_law_898 hl (k := 3) rfl rfl (by decide) rfl (fun ls hl => ?_)
        refine lv_goto (tgt := 18) hx hb dL_law_901 (by decide) ?_
        rw [evn_l] at hf
        exact IH18 a1 a2 (x3 + (4 : Int32)) (cn + 6) (cs + 424) σ39 _ _ _ hH (lv_sub hl [1, 2, 3, 0] rfl) hf
      · rw [if_neg c40] at hf
        refine lv_iconst (v := 0) hx hb dL_law_195 (by decide) ?_
        cases hf
    · rw [if_neg c3] at hf
      by_cases c4 : (v2 &&& (31 : Int32)) = (1 : Int32)
      · rw [if_pos c4] at hf
        refine lv_tableIn (off := 165) (tgt := 197) hx hb dL_law_32 (by rw [c4]; decide) (by rw [c4]; decide) (by rw [c4]; rfl) (by decide) ?_
        refine lv_aload_n hx hb dL_law_197 rfl (lv_at hl 1 rfl) ?_
        refine lv_aload_n hx hb dL_law_198 rfl (lv_at hl 0 rfl) ?_
        refine lv_iload_n hx hb dL_law_199 rfl (lv_at hl 3 rfl) ?_
        refine lv_iconst (v := 1) hx hb dL_law_200 (by decide) ?_
        refine lv_iadd hx hb dL_law_201 ?_
        replace hf := evn_b1 hf
        obtain ⟨v41, e11, hf⟩ := hf
        refine mm_sld F hH hX hb0 e11 dL_law_202 ?_
        refine lv_aload_n hx hb dL_law_203 rfl (lv_at hl 0 rfl) ?_
        refine lv_iload_n hx hb dL_law_204 rfl (lv_at hl 3 rfl) ?_
        refine lv_iconst (v := 2) hx hb dL_law_205 (by decide) ?_
        refine lv_iadd hx hb dL_law_206 ?_
        replace hf := evn_b1 hf
        obtain ⟨v42, e12, hf⟩ := hf
        refine mm_sld F hH hX hb0 e12 dL_law_207 ?_
        replace hf := evn_b1 hf
        obtain ⟨u, e13, hf⟩ := hf
        obtain ⟨fs, ek⟩ := ck_i e13
        replace hf := evn_b1 hf
        obtain ⟨u, e14, hf⟩ := hf
        have hg := grd_i e14
        replace hf := evn_b2 hf
        obtain ⟨v43, σ44, e15, hf⟩ := hf
        refine mm_ci (va_runV (As := [.int v41, .int v42]) (rest := []) ⟨hx, hb, hml, hown, hts⟩ (m_X0_alloc l G a1 v41 v42 σ σ44 v43 e15) (cwV 2 hts (lw_V q220 q221 q222 q62 q223) rfl rfl rfl (by decide +kernel) ⟨Nat.le_of_ble_eq_true rfl, Nat.le_of_ble_eq_true rfl⟩) (mm_preV F.2.2.2.2.2 hH (ci := 0) rfl ek) rfl rfl hl.1 rfl (lv_room (Nat.le_of_ble_eq_true rfl)) dL_law_208 hg) hH (fun H locs hH => ?_)
        refine lv_aload_n hx hb dL_law_211 rfl (lv_at hl 2 rfl) ?_
        refine lv_aload_n hx hb dL_law_212 rfl (lv_at hl 0 rfl) ?_
        refine lv_iload_n hx hb dL_law_213 rfl (lv_at hl 3 rfl) ?_
        refine lv_iconst (v := 1) hx hb dL_law_214 (by decide) ?_
        refine lv_iadd hx hb dL_law_215 ?_
        replace hf := evn_b1 hf
        obtain ⟨v45, e16, hf⟩ := hf
        refine mm_sld F hH hX hb0 e16 dL_law_216 ?_
        refine lv_aload_n hx hb dL_law_217 rfl (lv_at hl 0 rfl) ?_
        refine lv_iload_n hx hb dL_law_218 rfl (lv_at hl 3 rfl) ?_
        refine lv_iconst (v := 2) hx hb dL_law_219 (by decide) ?_
        refine lv_iadd hx hb dL_law_220 ?_
        replace hf := evn_b1 hf
        obtain ⟨v46, e17, hf⟩ := hf
        refine mm_sld F hH hX hb0 e17 dL_law_221 ?_
        replace hf := evn_b1 hf
        obtain ⟨u, e18, hf⟩ := hf
        obtain ⟨fs, ek⟩ := ck_i e18
        replace hf := evn_b2 hf
        obtain ⟨v47, σ48, e19, hf⟩ := hf
        refine mm_ci (va_runV (As := [.int v45, .int v46]) (rest := [.int v43]) ⟨hx, hb, hml, hown, hts⟩ (m_X2_alloc l G a2 v45 v46 σ44 σ48 v47 e19) (cwV 2 hts (lw_V q1111 q1112 q1113 q67 q1114) rfl rfl rfl (by decide +kernel) ⟨Nat.le_of_ble_eq_true rfl, Nat.le_of_ble_eq_true rfl⟩) (mm_preV F.2.2.2.2.2 hH (ci := 2) rfl ek) rfl rfl hl.1 rfl (lv_room (Nat.le_of_ble_eq_true rfl)) dL_law_222 hg) hH (fun H locs hH => ?_)
        refine lv_icmp_eq (tgt := 898) hx hb dL_law_225 (by decide) (fun c49 => ?_) (fun c49 => ?_)
        · rw [if_pos c49] at hf
          refine lv_iinc (v := x3 + (4 : Int32)) (lv' := [(3, .int (x3 + (4 : Int32))), (0, .ref bq), (1, .ref a1), (2, .ref a2)]) hx hb dL_law_898 hl (k := 3) rfl rfl (by decide) rfl (fun ls hl => ?_)
          refine lv_goto (tgt := 18) hx hb dL_law_901 (by decide) ?_
          rw [evn_l] at hf
          exact IH18 a1 a2 (x3 + (4 : Int32)) (cn + 4) (cs + 268) σ48 _ _ _ hH (lv_sub hl [1, 2, 3, 0] rfl) hf
        · rw [if_neg c49] at hf
          refine lv_iconst (v := 0) hx hb dL_law_228 (by decide) ?_
          cases hf
      · rw [if_neg c4] at hf
        by_cases c5 : (v2 &&& (31 : Int32)) = (2 : Int32)
        · rw [if_pos c5] at hf
          refine lv_tableIn (off := 198) (tgt := 230) hx hb dL_law_32 (by rw [c5]; decide) (by rw [c5]; decide) (by rw [c5]; rfl) (by decide) ?_
          refine lv_aload_n hx hb dL_law_230 rfl (lv_at hl 1 rfl) ?_
          refine lv_aload_n hx hb dL_law_231 rfl (lv_at hl 0 rfl) ?_
          refine lv_iload_n hx hb dL_law_232 rfl (lv_at hl 3 rfl) ?_
          refine lv_iconst (v := 1) hx hb dL_law_233 (by decide) ?_
          refine lv_iadd hx hb dL_law_234 ?_
          replace hf := evn_b1 hf
          obtain ⟨v50, e20, hf⟩ := hf
          refine mm_sld F hH hX hb0 e20 dL_law_235 ?_
          refine lv_aload_n hx hb dL_law_236 rfl (lv_at hl 0 rfl) ?_
          refine lv_iload_n hx hb dL_law_237 rfl (lv_at hl 3 rfl) ?_
          refine lv_iconst (v := 2) hx hb dL_law_238 (by decide) ?_
          refine lv_iadd hx hb dL_law_239 ?_
          replace hf := evn_b1 hf
          obtain ⟨v51, e21, hf⟩ := hf
          refine mm_sld F hH hX hb0 e21 dL_law_240 ?_
          replace hf := evn_b1 hf
          obtain ⟨u, e22, hf⟩ := hf
          obtain ⟨fs, ek⟩ := ck_i e22
          replace hf := evn_b1 hf
          obtain ⟨u, e23, hf⟩ := hf
          have hg := grd_i e23
          replace hf := evn_b2 hf
          obtain ⟨v52, σ53, e24, hf⟩ := hf
          refine mm_ci (va_runV (As := [.int v50, .int v51]) (rest := []) ⟨hx, hb, hml, hown, hts⟩ (m_X0_object l G a1 v50 v51 σ σ53 v52 e24) (cwV 2 hts (lw_V q380 q381 q382 q62 q383) rfl rfl rfl (by decide +kernel) ⟨Nat.le_of_ble_eq_true rfl, Nat.le_of_ble_eq_true rfl⟩) (mm_preV F.2.2.2.2.2 hH (ci := 0) rfl ek) rfl rfl hl.1 rfl (lv_room (Nat.le_of_ble_eq_true rfl)) dL_law_241 hg) hH (fun H locs hH => ?_)
          refine lv_aload_n hx hb dL_law_244 rfl (lv_at hl 2 rfl) ?_
          refine lv_aload_n hx hb dL_law_245 rfl (lv_at hl 0 rfl) ?_
          refine lv_iload_n hx hb dL_law_246 rfl (lv_at hl 3 rfl) ?_
          refine lv_iconst (v := 1) hx hb dL_law_247 (by decide) ?_
          refine lv_iadd hx hb dL_law_248 ?_
          replace hf := evn_b1 hf
          obtain ⟨v54, e25, hf⟩ := hf
          refine mm_sld F hH hX hb0 e25 dL_law_249 ?_
          refine lv_aload_n hx hb dL_law_250 rfl (lv_at hl 0 rfl) ?_
          refine lv_iload_n hx hb dL_law_251 rfl (lv_at hl 3 rfl) ?_
          refine lv_iconst (v := 2) hx hb dL_law_252 (by decide) ?_
          refine lv_iadd hx hb dL_law_253 ?_
          replace hf := evn_b1 hf
          obtain ⟨v55, e26, hf⟩ := hf
          refine mm_sld F hH hX hb0 e26 dL_law_254 ?_
          replace hf := evn_b1 hf
          obtain ⟨u, e27, hf⟩ := hf
          obtain ⟨fs, ek⟩ := ck_i e27
          replace hf := evn_b2 hf
          obtain ⟨v56, σ57, e28, hf⟩ := hf
          refine mm_ci (va_runV (As := [.int v54, .int v55]) (rest := [.int v52]) ⟨hx, hb, hml, hown, hts⟩ (m_X2_object l G a2 v54 v55 σ53 σ57 v56 e28) (cwV 2 hts (lw_V q1120 q1121 q1122 q67 q1123) rfl rfl rfl (by decide +kernel) ⟨Nat.le_of_ble_eq_true rfl, Nat.le_of_ble_eq_true rfl⟩) (mm_preV F.2.2.2.2.2 hH (ci := 2) rfl ek) rfl rfl hl.1 rfl (lv_room (Nat.le_of_ble_eq_true rfl)) dL_law_255 hg) hH (fun H locs hH => ?_)
          refine lv_icmp_eq (tgt := 898) hx hb dL_law_258 (by decide) (fun c58 => ?_) (fun c58 => ?_)
          · rw [if_pos c58] at hf
            refine lv_iinc (v := x3 + (4 : Int32)) (lv' := [(3, .int (x3 + (4 : Int32))), (0, .ref bq), (1, .ref a1), (2, .ref a2)]) hx hb dL_law_898 hl (k := 3) rfl rfl (by decide) rfl (fun ls hl => ?_)
            refine lv_goto (tgt := 18) hx hb dL_law_901 (by decide) ?_
            rw [evn_l] at hf
            exact IH18 a1 a2 (x3 + (4 : Int32)) (cn + 1) (cs + 8) σ57 _ _ _ hH (lv_sub hl [1, 2, 3, 0] rfl) hf
          · rw [if_neg c58] at hf
            refine lv_iconst (v := 0) hx hb dL_law_261 (by decide) ?_
            cases hf
        · rw [if_neg c5] at hf
          by_cases c6 : (v2 &&& (31 : Int32)) = (3 : Int32)
          · rw [if_pos c6] at hf
            refine lv_tableIn (off := 231) (tgt := 263) hx hb dL_law_32 (by rw [c6]; decide) (by rw [c6]; decide) (by rw [c6]; rfl) (by decide) ?_
            refine lv_aload_n hx hb dL_law_263 rfl (lv_at hl 1 rfl) ?_
            refine lv_aload_n hx hb dL_law_264 rfl (lv_at hl 0 rfl) ?_
            refine lv_iload_n hx hb dL_law_265 rfl (lv_at hl 3 rfl) ?_
            refine lv_iconst (v := 1) hx hb dL_law_266 (by decide) ?_
            refine lv_iadd hx hb dL_law_267 ?_
            replace hf := evn_b1 hf
            obtain ⟨v59, e29, hf⟩ := hf
            refine mm_sld F hH hX hb0 e29 dL_law_268 ?_
            replace hf := evn_b1 hf
            obtain ⟨u, e30, hf⟩ := hf
            obtain ⟨fs, ek⟩ := ck_i e30
            replace hf := evn_b1 hf
            obtain ⟨v60, e31, hf⟩ := hf
            refine mm_ci (va_runV (As := [.int v59]) (rest := []) ⟨hx, hb, hml, hown, hts⟩ (m_X0_next l G a1 v59 σ v60 e31) (cwV 1 hts (lw_V q512 q513 q514 q62 q515) rfl rfl rfl (by decide +kernel) ⟨Nat.le_of_ble_eq_true rfl, Nat.le_of_ble_eq_true rfl⟩) (mm_preV F.2.2.2.2.2 hH (ci := 0) rfl ek) rfl rfl hl.1 rfl (lv_room (Nat.le_of_ble_eq_true rfl)) dL_law_269 hg) hH (fun H locs hH => ?_)
            refine lv_aload_n hx hb dL_law_272 rfl (lv_at hl 2 rfl) ?_
            refine lv_aload_n hx hb dL_law_273 rfl (lv_at hl 0 rfl) ?_
            refine lv_iload_n hx hb dL_law_274 rfl (lv_at hl 3 rfl) ?_
            refine lv_iconst (v := 1) hx hb dL_law_275 (by decide) ?_
            refine lv_iadd hx hb dL_law_276 ?_
            replace hf := evn_b1 hf
            obtain ⟨v61, e32, hf⟩ := hf
            refine mm_sld F hH hX hb0 e32 dL_law_277 ?_
            replace hf := evn_b1 hf
            obtain ⟨u, e33, hf⟩ := hf
            obtain ⟨fs, ek⟩ := ck_i e33
            replace hf := evn_b1 hf
            obtain ⟨v62, e34, hf⟩ := hf
            refine mm_ci (va_runV (As := [.int v61]) (rest := [.int v60]) ⟨hx, hb, hml, hown, hts⟩ (m_X2_next l G a2 v61 σ v62 e34) (cwV 1 hts (lw_V q1144 q1145 q1146 q67 q1147) rfl rfl rfl (by decide +kernel) ⟨Nat.le_of_ble_eq_true rfl, Nat.le_of_ble_eq_true rfl⟩) (mm_preV F.2.2.2.2.2 hH (ci := 2) rfl ek) rfl rfl hl.1 rfl (lv_room (Nat.le_of_ble_eq_true rfl)) dL_law_278 hg) hH (fun H locs hH => ?_)
            refine lv_icmp_eq (tgt := 898) hx hb dL_law_281 (by decide) (fun c63 => ?_) (fun c63 => ?_)
            · rw [if_pos c63] at hf
              refine lv_iinc (v := x3 + (4 : Int32)) (lv' := [(3, .int (x3 + (4 : Int32))), (0, .ref bq), (1, .ref a1), (2, .ref a2)]) hx hb dL_law_898 hl (k := 3) rfl rfl (by decide) rfl (fun ls hl => ?_)
              refine lv_goto (tgt := 18) hx hb dL_law_901 (by decide) ?_
              rw [evn_l] at hf
              exact IH18 a1 a2 (x3 + (4 : Int32)) cn cs σ _ _ _ hH (lv_sub hl [1, 2, 3, 0] rfl) hf
            · rw [if_neg c63] at hf
              refine lv_iconst (v := 0) hx hb dL_law_284 (by decide) ?_
              cases hf
          · rw [if_neg c6] at hf
            by_cases c7 : (v2 &&& (31 : Int32)) = (4 : Int32)
            · rw [if_pos c7] at hf
              refine lv_tableIn (off := 254) (tgt := 286) hx hb dL_law_32 (by rw [c7]; decide) (by rw [c7]; decide) (by rw [c7]; rfl) (by decide) ?_
              refine lv_aload_n hx hb dL_law_286 rfl (lv_at hl 1 rfl) ?_
              refine lv_aload_n hx hb dL_law_287 rfl (lv_at hl 0 rfl) ?_
              refine lv_iload_n hx hb dL_law_288 rfl (lv_at hl 3 rfl) ?_
              refine lv_iconst (v := 1) hx hb dL_law_289 (by decide) ?_
              refine lv_iadd hx hb dL_law_290 ?_
              replace hf := evn_b1 hf
              obtain ⟨v64, e35, hf⟩ := hf
              refine mm_sld F hH hX hb0 e35 dL_law_291 ?_
              refine lv_aload_n hx hb dL_law_292 rfl (lv_at hl 0 rfl) ?_
              refine lv_iload_n hx hb dL_law_293 rfl (lv_at hl 3 rfl) ?_
              refine lv_iconst (v := 2) hx hb dL_law_294 (by decide) ?_
              refine lv_iadd hx hb dL_law_295 ?_
              replace hf := evn_b1 hf
              obtain ⟨v65, e36, hf⟩ := hf
              refine mm_sld F hH hX hb0 e36 dL_law_296 ?_
              refine lv_aload_n hx hb dL_law_297 rfl (lv_at hl 0 rfl) ?_
              refine lv_iload_n hx hb dL_law_298 rfl (lv_at hl 3 rfl) ?_
              refine lv_iconst (v := 3) hx hb dL_law_299 (by decide) ?_
              refine lv_iadd hx hb dL_law_300 ?_
              replace hf := evn_b1 hf
              obtain ⟨v66, e37, hf⟩ := hf
              refine mm_sld F hH hX hb0 e37 dL_law_301 ?_
              replace hf := evn_b1 hf
              obtain ⟨u, e38, hf⟩ := hf
              obtain ⟨fs, ek⟩ := ck_i e38
              replace hf := evn_b2 hf
              obtain ⟨v67, σ68, e39, hf⟩ := hf
              refine mm_ci (va_runV (As := [.int v64, .int v65, .int v66]) (rest := []) ⟨hx, hb, hml, hown, hts⟩ (m_X0_setField l G a1 v64 v65 v66 σ σ68 v67 e39) (cwV 3 hts (lw_V q517 q518 q519 q62 q520) rfl rfl rfl (by decide +kernel) ⟨Nat.le_of_ble_eq_true rfl, Nat.le_of_ble_eq_true rfl⟩) (mm_preV F.2.2.2.2.2 hH (ci := 0) rfl ek) rfl rfl hl.1 rfl (lv_room (Nat.le_of_ble_eq_true rfl)) dL_law_302 hg) hH (fun H locs hH => ?_)
              refine lv_aload_n hx hb dL_law_305 rfl (lv_at hl 2 rfl) ?_
              refine lv_aload_n hx hb dL_law_306 rfl (lv_at hl 0 rfl) ?_
              refine lv_iload_n hx hb dL_law_307 rfl (lv_at hl 3 rfl) ?_
              refine lv_iconst (v := 1) hx hb dL_law_308 (by decide) ?_
              refine lv_iadd hx hb dL_law_309 ?_
              replace hf := evn_b1 hf
              obtain ⟨v69, e40, hf⟩ := hf
              refine mm_sld F hH hX hb0 e40 dL_law_310 ?_
              refine lv_aload_n hx hb dL_law_311 rfl (lv_at hl 0 rfl) ?_
              refine lv_iload_n hx hb dL_law_312 rfl (lv_at hl 3 rfl) ?_
              refine lv_iconst (v := 2) hx hb dL_law_313 (by decide) ?_
              refine lv_iadd hx hb dL_law_314 ?_
              replace hf := evn_b1 hf
              obtain ⟨v70, e41, hf⟩ := hf
              refine mm_sld F hH hX hb0 e41 dL_law_315 ?_
              refine lv_aload_n hx hb dL_law_316 rfl (lv_at hl 0 rfl) ?_
              refine lv_iload_n hx hb dL_law_317 rfl (lv_at hl 3 rfl) ?_
              refine lv_iconst (v := 3) hx hb dL_law_318 (by decide) ?_
              refine lv_iadd hx hb dL_law_319 ?_
              replace hf := evn_b1 hf
              obtain ⟨v71, e42, hf⟩ := hf
              refine mm_sld F hH hX hb0 e42 dL_law_320 ?_
              replace hf := evn_b1 hf
              obtain ⟨u, e43, hf⟩ := hf
              obtain ⟨fs, ek⟩ := ck_i e43
              replace hf := evn_b2 hf
              obtain ⟨v72, σ73, e44, hf⟩ := hf
              refine mm_ci (va_runV (As := [.int v69, .int v70, .int v71]) (rest := [.int v67]) ⟨hx, hb, hml, hown, hts⟩ (m_X2_setField l G a2 v69 v70 v71 σ68 σ73 v72 e44) (cwV 3 hts (lw_V q1152 q1153 q1154 q67 q1155) rfl rfl rfl (by decide +kernel) ⟨Nat.le_of_ble_eq_true rfl, Nat.le_of_ble_eq_true rfl⟩) (mm_preV F.2.2.2.2.2 hH (ci := 2) rfl ek) rfl rfl hl.1 rfl (lv_room (Nat.le_of_ble_eq_true rfl)) dL_law_321 hg) hH (fun H locs hH => ?_)
              refine lv_icmp_eq (tgt := 898) hx hb dL_law_324 (by decide) (fun c74 => ?_) (fun c74 => ?_)
              · rw [if_pos c74] at hf
                refine lv_iinc (v := x3 + (4 : Int32)) (lv' := [(3, .int (x3 + (4 : Int32))), (0, .ref bq), (1, .ref a1), (2, .ref a2)]) hx hb dL_law_898 hl (k := 3) rfl rfl (by decide) rfl (fun ls hl => ?_)
                refine lv_goto (tgt := 18) hx hb dL_law_901 (by decide) ?_
                rw [evn_l] at hf
                exact IH18 a1 a2 (x3 + (4 : Int32)) cn cs σ73 _ _ _ hH (lv_sub hl [1, 2, 3, 0] rfl) hf
              · rw [if_neg c74] at hf
                refine lv_iconst (v := 0) hx hb dL_law_327 (by decide) ?_
                cases hf
            · rw [if_neg c7] at hf
              by_cases c8 : (v2 &&& (31 : Int32)) = (5 : Int32)
              · rw [if_pos c8] at hf
                refine lv_tableIn (off := 297) (tgt := 329) hx hb dL_law_32 (by rw [c8]; decide) (by rw [c8]; decide) (by rw [c8]; rfl) (by decide) ?_
                refine lv_aload_n hx hb dL_law_329 rfl (lv_at hl 1 rfl) ?_
                refine lv_aload_n hx hb dL_law_330 rfl (lv_at hl 0 rfl) ?_
                refine lv_iload_n hx hb dL_law_331 rfl (lv_at hl 3 rfl) ?_
                refine lv_iconst (v := 1) hx hb dL_law_332 (by decide) ?_
                refine lv_iadd hx hb dL_law_333 ?_
                replace hf := evn_b1 hf
                obtain ⟨v75, e45, hf⟩ := hf
                refine mm_sld F hH hX hb0 e45 dL_law_334 ?_
                refine lv_aload_n hx hb dL_law_335 rfl (lv_at hl 0 rfl) ?_
                refine lv_iload_n hx hb dL_law_336 rfl (lv_at hl 3 rfl) ?_
                refine lv_iconst (v := 2) hx hb dL_law_337 (by decide) ?_
                refine lv_iadd hx hb dL_law_338 ?_
                replace hf := evn_b1 hf
                obtain ⟨v76, e46, hf⟩ := hf
                refine mm_sld F hH hX hb0 e46 dL_law_339 ?_
                replace hf := evn_b1 hf
                obtain ⟨u, e47, hf⟩ := hf
                obtain ⟨fs, ek⟩ := ck_i e47
                replace hf := evn_b1 hf
                obtain ⟨v77, e48, hf⟩ := hf
                refine mm_ci (va_runV (As := [.int v75, .int v76]) (rest := []) ⟨hx, hb, hml, hown, hts⟩ (m_X0_field l G a1 v75 v76 σ v77 e48) (cwV 2 hts (lw_V q533 q534 q535 q62 q536) rfl rfl rfl (by decide +kernel) ⟨Nat.le_of_ble_eq_true rfl, Nat.le_of_ble_eq_true rfl⟩) (mm_preV F.2.2.2.2.2 hH (ci := 0) rfl ek) rfl rfl hl.1 rfl (lv_room (Nat.le_of_ble_eq_true rfl)) dL_law_340 hg) hH (fun H locs hH => ?_)
                refine lv_aload_n hx hb dL_law_343 rfl (lv_at hl 2 rfl) ?_
                refine lv_aload_n hx hb dL_law_344 rfl (lv_at hl 0 rfl) ?_
                refine lv_iload_n hx hb dL_law_345 rfl (lv_at hl 3 rfl) ?_
                refine lv_iconst (v := 1) hx hb dL_law_346 (by decide) ?_
                refine lv_iadd hx hb dL_law_347 ?_
                replace hf := evn_b1 hf
                obtain ⟨v78, e49, hf⟩ := hf
                refine mm_sld F hH hX hb0 e49 dL_law_348 ?_
                refine lv_aload_n hx hb dL_law_349 rfl (lv_at hl 0 rfl) ?_
                refine lv_iload_n hx hb dL_law_350 rfl (lv_at hl 3 rfl) ?_
                refine lv_iconst (v := 2) hx hb dL_law_351 (by decide) ?_
                refine lv_iadd hx hb dL_law_352 ?_
                replace hf := evn_b1 hf
                obtain ⟨v79, e50, hf⟩ := hf
                refine mm_sld F hH hX hb0 e50 dL_law_353 ?_
                replace hf := evn_b1 hf
                obtain ⟨u, e51, hf⟩ := hf
                obtain ⟨fs, ek⟩ := ck_i e51
                replace hf := evn_b1 hf
                obtain ⟨v80, e52, hf⟩ := hf
                refine mm_ci (va_runV (As := [.int v78, .int v79]) (rest := [.int v77]) ⟨hx, hb, hml, hown, hts⟩ (m_X2_field l G a2 v78 v79 σ v80 e52) (cwV 2 hts (lw_V q1160 q1161 q1162 q67 q1163) rfl rfl rfl (by decide +kernel) ⟨Nat.le_of_ble_eq_true rfl, Nat.le_of_ble_eq_true rfl⟩) (mm_preV F.2.2.2.2.2 hH (ci := 2) rfl ek) rfl rfl hl.1 rfl (lv_room (Nat.le_of_ble_eq_true rfl)) dL_law_354 hg) hH (fun H locs hH => ?_)
                refine lv_icmp_eq (tgt := 898) hx hb dL_law_357 (by decide) (fun c81 => ?_) (fun c81 => ?_)
                · rw [if_pos c81] at hf
                  refine lv_iinc (v := x3 + (4 : Int32)) (lv' := [(3, .int (x3 + (4 : Int32))), (0, .ref bq), (1, .ref a1), (2, .ref a2)]) hx hb dL_law_898 hl (k := 3) rfl rfl (by decide) rfl (fun ls hl => ?_)
                  refine lv_goto (tgt := 18) hx hb dL_law_901 (by decide) ?_
                  rw [evn_l] at hf
                  exact IH18 a1 a2 (x3 + (4 : Int32)) cn cs σ _ _ _ hH (lv_sub hl [1, 2, 3, 0] rfl) hf
                · rw [if_neg c81] at hf
                  refine lv_iconst (v := 0) hx hb dL_law_360 (by decide) ?_
                  cases hf
              · rw [if_neg c8] at hf
                by_cases c9 : (v2 &&& (31 : Int32)) = (6 : Int32)
                · rw [if_pos c9] at hf
                  refine lv_tableIn (off := 330) (tgt := 362) hx hb dL_law_32 (by rw [c9]; decide) (by rw [c9]; decide) (by rw [c9]; rfl) (by decide) ?_
                  refine lv_aload_n hx hb dL_law_362 rfl (lv_at hl 1 rfl) ?_
                  refine lv_aload_n hx hb dL_law_363 rfl (lv_at hl 0 rfl) ?_
                  refine lv_iload_n hx hb dL_law_364 rfl (lv_at hl 3 rfl) ?_
                  refine lv_iconst (v := 1) hx hb dL_law_365 (by decide) ?_
                  refine lv_iadd hx hb dL_law_366 ?_
                  replace hf := evn_b1 hf
                  obtain ⟨v82, e53, hf⟩ := hf
                  refine mm_sld F hH hX hb0 e53 dL_law_367 ?_
                  refine lv_aload_n hx hb dL_law_368 rfl (lv_at hl 0 rfl) ?_
                  refine lv_iload_n hx hb dL_law_369 rfl (lv_at hl 3 rfl) ?_
                  refine lv_iconst (v := 2) hx hb dL_law_370 (by decide) ?_
                  refine lv_iadd hx hb dL_law_371 ?_
                  replace hf := evn_b1 hf
                  obtain ⟨v83, e54, hf⟩ := hf
                  refine mm_sld F hH hX hb0 e54 dL_law_372 ?_
                  refine lv_aload_n hx hb dL_law_373 rfl (lv_at hl 0 rfl) ?_
                  refine lv_iload_n hx hb dL_law_374 rfl (lv_at hl 3 rfl) ?_
                  refine lv_iconst (v := 3) hx hb dL_law_375 (by decide) ?_
                  refine lv_iadd hx hb dL_law_376 ?_
                  replace hf := evn_b1 hf
                  obtain ⟨v84, e55, hf⟩ := hf
                  refine mm_sld F hH hX hb0 e55 dL_law_377 ?_
                  replace hf := evn_b1 hf
                  obtain ⟨u, e56, hf⟩ := hf
                  obtain ⟨fs, ek⟩ := ck_i e56
                  replace hf := evn_b2 hf
                  obtain ⟨v85, σ86, e57, hf⟩ := hf
                  refine mm_ci (va_runV (As := [.int v82, .int v83, .int v84]) (rest := []) ⟨hx, hb, hml, hown, hts⟩ (m_X0_setData l G a1 v82 v83 v84 σ σ86 v85 e57) (cwV 3 hts (lw_V q537 q538 q539 q62 q540) rfl rfl rfl (by decide +kernel) ⟨Nat.le_of_ble_eq_true rfl, Nat.le_of_ble_eq_true rfl⟩) (mm_preV F.2.2.2.2.2 hH (ci := 0) rfl ek) rfl rfl hl.1 rfl (lv_room (Nat.le_of_ble_eq_true rfl)) dL_law_378 hg) hH (fun H locs hH => ?_)
                  refine lv_aload_n hx hb dL_law_381 rfl (lv_at hl 2 rfl) ?_
                  refine lv_aload_n hx hb dL_law_382 rfl (lv_at hl 0 rfl) ?_
                  refine lv_iload_n hx hb dL_law_383 rfl (lv_at hl 3 rfl) ?_
                  refine lv_iconst (v := 1) hx hb dL_law_384 (by decide) ?_
                  refine lv_iadd hx hb dL_law_385 ?_
                  replace hf := evn_b1 hf
                  obtain ⟨v87, e58, hf⟩ := hf
                  refine mm_sld F hH hX hb0 e58 dL_law_386 ?_
                  refine lv_aload_n hx hb dL_law_387 rfl (lv_at hl 0 rfl) ?_
                  refine lv_iload_n hx hb dL_law_388 rfl (lv_at hl 3 rfl) ?_
                  refine lv_iconst (v := 2) hx hb dL_law_389 (by decide) ?_
                  refine lv_iadd hx hb dL_law_390 ?_
                  replace hf := evn_b1 hf
                  obtain ⟨v88, e59, hf⟩ := hf
                  refine mm_sld F hH hX hb0 e59 dL_law_391 ?_
                  refine lv_aload_n hx hb dL_law_392 rfl (lv_at hl 0 rfl) ?_
                  refine lv_iload_n hx hb dL_law_393 rfl (lv_at hl 3 rfl) ?_
                  refine lv_iconst (v := 3) hx hb dL_law_394 (by decide) ?_
                  refine lv_iadd hx hb dL_law_395 ?_
                  replace hf := evn_b1 hf
                  obtain ⟨v89, e60, hf⟩ := hf
                  refine mm_sld F hH hX hb0 e60 dL_law_396 ?_
                  replace hf := evn_b1 hf
                  obtain ⟨u, e61, hf⟩ := hf
                  obtain ⟨fs, ek⟩ := ck_i e61
                  replace hf := evn_b2 hf
                  obtain ⟨v90, σ91, e62, hf⟩ := hf
                  refine mm_ci (va_runV (As := [.int v87, .int v88, .int v89]) (rest := [.int v85]) ⟨hx, hb, hml, hown, hts⟩ (m_X2_setData l G a2 v87 v88 v89 σ86 σ91 v90 e62) (cwV 3 hts (lw_V q1164 q1165 q1166 q67 q1167) rfl rfl rfl (by decide +kernel) ⟨Nat.le_of_ble_eq_true rfl, Nat.le_of_ble_eq_true rfl⟩) (mm_preV F.2.2.2.2.2 hH (ci := 2) rfl ek) rfl rfl hl.1 rfl (lv_room (Nat.le_of_ble_eq_true rfl)) dL_law_397 hg) hH (fun H locs hH => ?_)
                  refine lv_icmp_eq (tgt := 898) hx hb dL_law_400 (by decide) (fun c92 => ?_) (fun c92 => ?_)
                  · rw [if_pos c92] at hf
                    refine lv_iinc (v := x3 + (4 : Int32)) (lv' := [(3, .int (x3 + (4 : Int32))), (0, .ref bq), (1, .ref a1), (2, .ref a2)]) hx hb dL_law_898 hl (k := 3) rfl rfl (by decide) rfl (fun ls hl => ?_)
                    refine lv_goto (tgt := 18) hx hb dL_law_901 (by decide) ?_
                    rw [evn_l] at hf
                    exact IH18 a1 a2 (x3 + (4 : Int32)) cn cs σ91 _ _ _ hH (lv_sub hl [1, 2, 3, 0] rfl) hf
                  · rw [if_neg c92] at hf
                    refine lv_iconst (v := 0) hx hb dL_law_403 (by decide) ?_
                    cases hf
                · rw [if_neg c9] at hf
                  by_cases c10 : (v2 &&& (31 : Int32)) = (7 : Int32)
                  · rw [if_pos c10] at hf
                    refine lv_tableIn (off := 373) (tgt := 405) hx hb dL_law_32 (by rw [c10]; decide) (by rw [c10]; decide) (by rw [c10]; rfl) (by decide) ?_
                    refine lv_aload_n hx hb dL_law_405 rfl (lv_at hl 1 rfl) ?_
                    refine lv_aload_n hx hb dL_law_406 rfl (lv_at hl 0 rfl) ?_
                    refine lv_iload_n hx hb dL_law_407 rfl (lv_at hl 3 rfl) ?_
                    refine lv_iconst (v := 1) hx hb dL_law_408 (by decide) ?_
                    refine lv_iadd hx hb dL_law_409 ?_
                    replace hf := evn_b1 hf
                    obtain ⟨v93, e63, hf⟩ := hf
                    refine mm_sld F hH hX hb0 e63 dL_law_410 ?_
                    refine lv_aload_n hx hb dL_law_411 rfl (lv_at hl 0 rfl) ?_
                    refine lv_iload_n hx hb dL_law_412 rfl (lv_at hl 3 rfl) ?_
                    refine lv_iconst (v := 2) hx hb dL_law_413 (by decide) ?_
                    refine lv_iadd hx hb dL_law_414 ?_
                    replace hf := evn_b1 hf
                    obtain ⟨v94, e64, hf⟩ := hf
                    refine mm_sld F hH hX hb0 e64 dL_law_415 ?_
                    replace hf := evn_b1 hf
                    obtain ⟨u, e65, hf⟩ := hf
                    obtain ⟨fs, ek⟩ := ck_i e65
                    replace hf := evn_b1 hf
                    obtain ⟨v95, e66, hf⟩ := hf
                    refine mm_ci (va_runV (As := [.int v93, .int v94]) (rest := []) ⟨hx, hb, hml, hown, hts⟩ (m_X0_data l G a1 v93 v94 σ v95 e66) (cwV 2 hts (lw_V q547 q548 q549 q62 q550) rfl rfl rfl (by decide +kernel) ⟨Nat.le_of_ble_eq_true rfl, Nat.le_of_ble_eq_true rfl⟩) (mm_preV F.2.2.2.2.2 hH (ci := 0) rfl ek) rfl rfl hl.1 rfl (lv_room (Nat.le_of_ble_eq_true rfl)) dL_law_416 hg) hH (fun H locs hH => ?_)
                    refine lv_aload_n hx hb dL_law_419 rfl (lv_at hl 2 rfl) ?_
                    refine lv_aload_n hx hb dL_law_420 rfl (lv_at hl 0 rfl) ?_
                    refine lv_iload_n hx hb dL_law_421 rfl (lv_at hl 3 rfl) ?_
                    refine lv_iconst (v := 1) hx hb dL_law_422 (by decide) ?_
                    refine lv_iadd hx hb dL_law_423 ?_
                    replace hf := evn_b1 hf
                    obtain ⟨v96, e67, hf⟩ := hf
                    refine mm_sld F hH hX hb0 e67 dL_law_424 ?_
                    refine lv_aload_n hx hb dL_law_425 rfl (lv_at hl 0 rfl) ?_
                    refine lv_iload_n hx hb dL_law_426 rfl (lv_at hl 3 rfl) ?_
                    refine lv_iconst (v := 2) hx hb dL_law_427 (by decide) ?_
                    refine lv_iadd hx hb dL_law_428 ?_
                    replace hf := evn_b1 hf
                    obtain ⟨v97, e68, hf⟩ := hf
                    refine mm_sld F hH hX hb0 e68 dL_law_429 ?_
                    replace hf := evn_b1 hf
                    obtain ⟨u, e69, hf⟩ := hf
                    obtain ⟨fs, ek⟩ := ck_i e69
                    replace hf := evn_b1 hf
                    obtain ⟨v98, e70, hf⟩ := hf
                    refine mm_ci (va_runV (As := [.int v96, .int v97]) (rest := [.int v95]) ⟨hx, hb, hml, hown, hts⟩ (m_X2_data l G a2 v96 v97 σ v98 e70) (cwV 2 hts (lw_V q1170 q1171 q1172 q67 q1173) rfl rfl rfl (by decide +kernel) ⟨Nat.le_of_ble_eq_true rfl, Nat.le_of_ble_eq_true rfl⟩) (mm_preV F.2.2.2.2.2 hH (ci := 2) rfl ek) rfl rfl hl.1 rfl (lv_room (Nat.le_of_ble_eq_true rfl)) dL_law_430 hg) hH (fun H locs hH => ?_)
                    refine lv_icmp_eq (tgt := 898) hx hb dL_law_433 (by decide) (fun c99 => ?_) (fun c99 => ?_)
                    · rw [if_pos c99] at hf
                      refine lv_iinc (v := x3 + (4 : Int32)) (lv' := [(3, .int (x3 + (4 : Int32))), (0, .ref bq), (1, .ref a1), (2, .ref a2)]) hx hb dL_law_898 hl (k := 3) rfl rfl (by decide) rfl (fun ls hl => ?_)
                      refine lv_goto (tgt := 18) hx hb dL_law_901 (by decide) ?_
                      rw [evn_l] at hf
                      exact IH18 a1 a2 (x3 + (4 : Int32)) cn cs σ _ _ _ hH (lv_sub hl [1, 2, 3, 0] rfl) hf
                    · rw [if_neg c99] at hf
                      refine lv_iconst (v := 0) hx hb dL_law_436 (by decide) ?_
                      cases hf
                  · rw [if_neg c10] at hf
                    by_cases c11 : (v2 &&& (31 : Int32)) = (8 : Int32)
                    · rw [if_pos c11] at hf
                      refine lv_tableIn (off := 406) (tgt := 438) hx hb dL_law_32 (by rw [c11]; decide) (by rw [c11]; decide) (by rw [c11]; rfl) (by decide) ?_
                      refine lv_aload_n hx hb dL_law_438 rfl (lv_at hl 1 rfl) ?_
                      refine lv_aload_n hx hb dL_law_439 rfl (lv_at hl 0 rfl) ?_
                      refine lv_iload_n hx hb dL_law_440 rfl (lv_at hl 3 rfl) ?_
                      refine lv_iconst (v := 1) hx hb dL_law_441 (by decide) ?_
                      refine lv_iadd hx hb dL_law_442 ?_
                      replace hf := evn_b1 hf
                      obtain ⟨v100, e71, hf⟩ := hf
                      refine mm_sld F hH hX hb0 e71 dL_law_443 ?_
                      refine lv_aload_n hx hb dL_law_444 rfl (lv_at hl 0 rfl) ?_
                      refine lv_iload_n hx hb dL_law_445 rfl (lv_at hl 3 rfl) ?_
                      refine lv_iconst (v := 2) hx hb dL_law_446 (by decide) ?_
                      refine lv_iadd hx hb dL_law_447 ?_
                      replace hf := evn_b1 hf
                      obtain ⟨v101, e72, hf⟩ := hf
                      refine mm_sld F hH hX hb0 e72 dL_law_448 ?_
                      refine lv_if_eq (tgt := 456) hx hb dL_law_449 (by decide) (fun c102 => ?_) (fun c102 => ?_)
                      · rw [if_pos c102] at hf
                        refine lv_iconst (v := 0) hx hb dL_law_456 (by decide) ?_
                        exact w_L_law_457 F hX hb0 hend IH18 a1 a2 x3 a1 v100 (0 : Int32) cn cs σ hf hH (lv_sub hl [0, 1, 2, 3] rfl)
                      · rw [if_neg c102] at hf
                        refine lv_iconst (v := 1) hx hb dL_law_452 (by decide) ?_
                        refine lv_goto (tgt := 457) hx hb dL_law_453 (by decide) ?_
                        exact w_L_law_457 F hX hb0 hend IH18 a1 a2 x3 a1 v100 (1 : Int32) cn cs σ hf hH (lv_sub hl [0, 1, 2, 3] rfl)
                    · rw [if_neg c11] at hf
                      by_cases c12 : (v2 &&& (31 : Int32)) = (9 : Int32)
                      · rw [if_pos c12] at hf
                        refine lv_tableIn (off := 455) (tgt := 487) hx hb dL_law_32 (by rw [c12]; decide) (by rw [c12]; decide) (by rw [c12]; rfl) (by decide) ?_
                        refine lv_aload_n hx hb dL_law_487 rfl (lv_at hl 1 rfl) ?_
                        refine lv_aload_n hx hb dL_law_488 rfl (lv_at hl 0 rfl) ?_
                        refine lv_iload_n hx hb dL_law_489 rfl (lv_at hl 3 rfl) ?_
                        refine lv_iconst (v := 1) hx hb dL_law_490 (by decide) ?_
                        refine lv_iadd hx hb dL_law_491 ?_
                        replace hf := evn_b1 hf
                        obtain ⟨v103, e73, hf⟩ := hf
                        refine mm_sld F hH hX hb0 e73 dL_law_492 ?_
                        refine lv_aload_n hx hb dL_law_493 rfl (lv_at hl 0 rfl) ?_
                        refine lv_iload_n hx hb dL_law_494 rfl (lv_at hl 3 rfl) ?_
                        refine lv_iconst (v := 2) hx hb dL_law_495 (by decide) ?_
                        refine lv_iadd hx hb dL_law_496 ?_
                        replace hf := evn_b1 hf
                        obtain ⟨v104, e74, hf⟩ := hf
                        refine mm_sld F hH hX hb0 e74 dL_law_497 ?_
                        replace hf := evn_b1 hf
                        obtain ⟨u, e75, hf⟩ := hf
                        obtain ⟨fs, ek⟩ := ck_i e75
                        replace hf := evn_b2 hf
                        obtain ⟨v105, σ106, e76, hf⟩ := hf
                        refine mm_ci (va_runV (As := [.int v103, .int v104]) (rest := []) ⟨hx, hb, hml, hown, hts⟩ (m_X0_setRoot l G a1 v103 v104 σ σ106 v105 e76) (cwV 2 hts (lw_V q560 q561 q562 q62 q563) rfl rfl rfl (by decide +kernel) ⟨Nat.le_of_ble_eq_true rfl, Nat.le_of_ble_eq_true rfl⟩) (mm_preV F.2.2.2.2.2 hH (ci := 0) rfl ek) rfl rfl hl.1 rfl (lv_room (Nat.le_of_ble_eq_true rfl)) dL_law_498 hg) hH (fun H locs hH => ?_)
                        refine lv_aload_n hx hb dL_law_501 rfl (lv_at hl 2 rfl) ?_
                        refine lv_aload_n hx hb dL_law_502 rfl (lv_at hl 0 rfl) ?_
                        refine lv_iload_n hx hb dL_law_503 rfl (lv_at hl 3 rfl) ?_
                        refine lv_iconst (v := 1) hx hb dL_law_504 (by decide) ?_
                        refine lv_iadd hx hb dL_law_505 ?_
                        replace hf := evn_b1 hf
                        obtain ⟨v107, e77, hf⟩ := hf
                        refine mm_sld F hH hX hb0 e77 dL_law_506 ?_
                        refine lv_aload_n hx hb dL_law_507 rfl (lv_at hl 0 rfl) ?_
                        refine lv_iload_n hx hb dL_law_508 rfl (lv_at hl 3 rfl) ?_
                        refine lv_iconst (v := 2) hx hb dL_law_509 (by decide) ?_
                        refine lv_iadd hx hb dL_law_510 ?_
                        replace hf := evn_b1 hf
                        obtain ⟨v108, e78, hf⟩ := hf
                        refine mm_sld F hH hX hb0 e78 dL_law_511 ?_
                        replace hf := evn_b1 hf
                        obtain ⟨u, e79, hf⟩ := hf
                        obtain ⟨fs, ek⟩ := ck_i e79
                        replace hf := evn_b2 hf
                        obtain ⟨v109, σ110, e80, hf⟩ := hf
                        refine mm_ci (va_runV (As := [.int v107, .int v108]) (rest := [.int v105]) ⟨hx, hb, hml, hown, hts⟩ (m_X2_setRoot l G a2 v107 v108 σ106 σ110 v109 e80) (cwV 2 hts (lw_V q1183 q1184 q1185 q67 q1186) rfl rfl rfl (by decide +kernel) ⟨Nat.le_of_ble_eq_true rfl, Nat.le_of_ble_eq_true rfl⟩) (mm_preV F.2.2.2.2.2 hH (ci := 2) rfl ek) rfl rfl hl.1 rfl (lv_room (Nat.le_of_ble_eq_true rfl)) dL_law_512 hg) hH (fun H locs hH => ?_)
                        refine lv_icmp_eq (tgt := 898) hx hb dL_law_515 (by decide) (fun c111 => ?_) (fun c111 => ?_)
                        · rw [if_pos c111] at hf
                          refine lv_iinc (v := x3 + (4 : Int32)) (lv' := [(3, .int (x3 + (4 : Int32))), (0, .ref bq), (1, .ref a1), (2, .ref a2)]) hx hb dL_law_898 hl (k := 3) rfl rfl (by decide) rfl (fun ls hl => ?_)
                          refine lv_goto (tgt := 18) hx hb dL_law_901 (by decide) ?_
                          rw [evn_l] at hf
                          exact IH18 a1 a2 (x3 + (4 : Int32)) cn cs σ110 _ _ _ hH (lv_sub hl [1, 2, 3, 0] rfl) hf
                        · rw [if_neg c111] at hf
                          refine lv_iconst (v := 0) hx hb dL_law_518 (by decide) ?_
                          cases hf
                      · rw [if_neg c12] at hf
                        by_cases c13 : (v2 &&& (31 : Int32)) = (10 : Int32)
                        · rw [if_pos c13] at hf
                          refine lv_tableIn (off := 488) (tgt := 520) hx hb dL_law_32 (by rw [c13]; decide) (by rw [c13]; decide) (by rw [c13]; rfl) (by decide) ?_
                          refine lv_aload_n hx hb dL_law_520 rfl (lv_at hl 1 rfl) ?_
                          refine lv_aload_n hx hb dL_law_521 rfl (lv_at hl 0 rfl) ?_
                          refine lv_iload_n hx hb dL_law_522 rfl (lv_at hl 3 rfl) ?_
                          refine lv_iconst (v := 1) hx hb dL_law_523 (by decide) ?_
                          refine lv_iadd hx hb dL_law_524 ?_
                          replace hf := evn_b1 hf
                          obtain ⟨v112, e81, hf⟩ := hf
                          refine mm_sld F hH hX hb0 e81 dL_law_525 ?_
                          replace hf := evn_b1 hf
                          obtain ⟨u, e82, hf⟩ := hf
                          obtain ⟨fs, ek⟩ := ck_i e82
                          replace hf := evn_b1 hf
                          obtain ⟨v113, e83, hf⟩ := hf
                          refine mm_ci (va_runV (As := [.int v112]) (rest := []) ⟨hx, hb, hml, hown, hts⟩ (m_X0_root l G a1 v112 σ v113 e83) (cwV 1 hts (lw_V q564 q565 q566 q62 q567) rfl rfl rfl (by decide +kernel) ⟨Nat.le_of_ble_eq_true rfl, Nat.le_of_ble_eq_true rfl⟩) (mm_preV F.2.2.2.2.2 hH (ci := 0) rfl ek) rfl rfl hl.1 rfl (lv_room (Nat.le_of_ble_eq_true rfl)) dL_law_526 hg) hH (fun H locs hH => ?_)
                          refine lv_aload_n hx hb dL_law_529 rfl (lv_at hl 2 rfl) ?_
                          refine lv_aload_n hx hb dL_law_530 rfl (lv_at hl 0 rfl) ?_
                          refine lv_iload_n hx hb dL_law_531 rfl (lv_at hl 3 rfl) ?_
                          refine lv_iconst (v := 1) hx hb dL_law_532 (by decide) ?_
                          refine lv_iadd hx hb dL_law_533 ?_
                          replace hf := evn_b1 hf
                          obtain ⟨v114, e84, hf⟩ := hf
                          refine mm_sld F hH hX hb0 e84 dL_law_534 ?_
                          replace hf := evn_b1 hf
                          obtain ⟨u, e85, hf⟩ := hf
                          obtain ⟨fs, ek⟩ := ck_i e85
                          replace hf := evn_b1 hf
                          obtain ⟨v115, e86, hf⟩ := hf
                          refine mm_ci (va_runV (As := [.int v114]) (rest := [.int v113]) ⟨hx, hb, hml, hown, hts⟩ (m_X2_root l G a2 v114 σ v115 e86) (cwV 1 hts (lw_V q1191 q1192 q1193 q67 q1194) rfl rfl rfl (by decide +kernel) ⟨Nat.le_of_ble_eq_true rfl, Nat.le_of_ble_eq_true rfl⟩) (mm_preV F.2.2.2.2.2 hH (ci := 2) rfl ek) rfl rfl hl.1 rfl (lv_room (Nat.le_of_ble_eq_true rfl)) dL_law_535 hg) hH (fun H locs hH => ?_)
                          refine lv_icmp_eq (tgt := 898) hx hb dL_law_538 (by decide) (fun c116 => ?_) (fun c116 => ?_)
                          · rw [if_pos c116] at hf
                            refine lv_iinc (v := x3 + (4 : Int32)) (lv' := [(3, .int (x3 + (4 : Int32))), (0, .ref bq), (1, .ref a1), (2, .ref a2)]) hx hb dL_law_898 hl (k := 3) rfl rfl (by decide) rfl (fun ls hl => ?_)
                            refine lv_goto (tgt := 18) hx hb dL_law_901 (by decide) ?_
                            rw [evn_l] at hf
                            exact IH18 a1 a2 (x3 + (4 : Int32)) cn cs σ _ _ _ hH (lv_sub hl [1, 2, 3, 0] rfl) hf
                          · rw [if_neg c116] at hf
                            refine lv_iconst (v := 0) hx hb dL_law_541 (by decide) ?_
                            cases hf
                        · rw [if_neg c13] at hf
                          by_cases c14 : (v2 &&& (31 : Int32)) = (11 : Int32)
                          · rw [if_pos c14] at hf
                            refine lv_tableIn (off := 511) (tgt := 543) hx hb dL_law_32 (by rw [c14]; decide) (by rw [c14]; decide) (by rw [c14]; rfl) (by decide) ?_
                            refine lv_aload_n hx hb dL_law_543 rfl (lv_at hl 1 rfl) ?_
                            refine lv_aload_n hx hb dL_law_544 rfl (lv_at hl 0 rfl) ?_
                            refine lv_iload_n hx hb dL_law_545 rfl (lv_at hl 3 rfl) ?_
                            refine lv_iconst (v := 1) hx hb dL_law_546 (by decide) ?_
                            refine lv_iadd hx hb dL_law_547 ?_
                            replace hf := evn_b1 hf
                            obtain ⟨v117, e87, hf⟩ := hf
                            refine mm_sld F hH hX hb0 e87 dL_law_548 ?_
                            refine lv_aload_n hx hb dL_law_549 rfl (lv_at hl 0 rfl) ?_
                            refine lv_iload_n hx hb dL_law_550 rfl (lv_at hl 3 rfl) ?_
                            refine lv_iconst (v := 2) hx hb dL_law_551 (by decide) ?_
                            refine lv_iadd hx hb dL_law_552 ?_
                            replace hf := evn_b1 hf
                            obtain ⟨v118, e88, hf⟩ := hf
                            refine mm_sld F hH hX hb0 e88 dL_law_553 ?_
                            replace hf := evn_b1 hf
                            obtain ⟨u, e89, hf⟩ := hf
                            obtain ⟨fs, ek⟩ := ck_i e89
                            replace hf := evn_b2 hf
                            obtain ⟨v119, σ120, e90, hf⟩ := hf
                            refine mm_ci (va_runV (As := [.int v117, .int v118]) (rest := []) ⟨hx, hb, hml, hown, hts⟩ (m_X0_setWeak l G a1 v117 v118 σ σ120 v119 e90) (cwV 2 hts (lw_V q568 q569 q570 q62 q571) rfl rfl rfl (by decide +kernel) ⟨Nat.le_of_ble_eq_true rfl, Nat.le_of_ble_eq_true rfl⟩) (mm_preV F.2.2.2.2.2 hH (ci := 0) rfl ek) rfl rfl hl.1 rfl (lv_room (Nat.le_of_ble_eq_true rfl)) dL_law_554 hg) hH (fun H locs hH => ?_)
                            refine lv_aload_n hx hb dL_law_557 rfl (lv_at hl 2 rfl) ?_
                            refine lv_aload_n hx hb dL_law_558 rfl (lv_at hl 0 rfl) ?_
                            refine lv_iload_n hx hb dL_law_559 rfl (lv_at hl 3 rfl) ?_
                            refine lv_iconst (v := 1) hx hb dL_law_560 (by decide) ?_
                            refine lv_iadd hx hb dL_law_561 ?_
                            replace hf := evn_b1 hf
                            obtain ⟨v121, e91, hf⟩ := hf
                            refine mm_sld F hH hX hb0 e91 dL_law_562 ?_
                            refine lv_aload_n hx hb dL_law_563 rfl (lv_at hl 0 rfl) ?_
                            refine lv_iload_n hx hb dL_law_564 rfl (lv_at hl 3 rfl) ?_
                            refine lv_iconst (v := 2) hx hb dL_law_565 (by decide) ?_
                            refine lv_iadd hx hb dL_law_566 ?_
                            replace hf := evn_b1 hf
                            obtain ⟨v122, e92, hf⟩ := hf
                            refine mm_sld F hH hX hb0 e92 dL_law_567 ?_
                            replace hf := evn_b1 hf
                            obtain ⟨u, e93, hf⟩ := hf
                            obtain ⟨fs, ek⟩ := ck_i e93
                            replace hf := evn_b2 hf
                            obtain ⟨v123, σ124, e94, hf⟩ := hf
                            refine mm_ci (va_runV (As := [.int v121, .int v122]) (rest := [.int v119]) ⟨hx, hb, hml, hown, hts⟩ (m_X2_setWeak l G a2 v121 v122 σ120 σ124 v123 e94) (cwV 2 hts (lw_V q1195 q1196 q1197 q67 q1198) rfl rfl rfl (by decide +kernel) ⟨Nat.le_of_ble_eq_true rfl, Nat.le_of_ble_eq_true rfl⟩) (mm_preV F.2.2.2.2.2 hH (ci := 2) rfl ek) rfl rfl hl.1 rfl (lv_room (Nat.le_of_ble_eq_true rfl)) dL_law_568 hg) hH (fun H locs hH => ?_)
                            refine lv_icmp_eq (tgt := 898) hx hb dL_law_571 (by decide) (fun c125 => ?_) (fun c125 => ?_)
                            · rw [if_pos c125] at hf
                              refine lv_iinc (v := x3 + (4 : Int32)) (lv' := [(3, .int (x3 + (4 : Int32))), (0, .ref bq), (1, .ref a1), (2, .ref a2)]) hx hb dL_law_898 hl (k := 3) rfl rfl (by decide) rfl (fun ls hl => ?_)
                              refine lv_goto (tgt := 18) hx hb dL_law_901 (by decide) ?_
                              rw [evn_l] at hf
                              exact IH18 a1 a2 (x3 + (4 : Int32)) cn cs σ124 _ _ _ hH (lv_sub hl [1, 2, 3, 0] rfl) hf
                            · rw [if_neg c125] at hf
                              refine lv_iconst (v := 0) hx hb dL_law_574 (by decide) ?_
                              cases hf
                          · rw [if_neg c14] at hf
                            by_cases c15 : (v2 &&& (31 : Int32)) = (12 : Int32)
                            · rw [if_pos c15] at hf
                              refine lv_tableIn (off := 544) (tgt := 576) hx hb dL_law_32 (by rw [c15]; decide) (by rw [c15]; decide) (by rw [c15]; rfl) (by decide) ?_
                              refine lv_aload_n hx hb dL_law_576 rfl (lv_at hl 1 rfl) ?_
                              refine lv_aload_n hx hb dL_law_577 rfl (lv_at hl 0 rfl) ?_
                              refine lv_iload_n hx hb dL_law_578 rfl (lv_at hl 3 rfl) ?_
                              refine lv_iconst (v := 1) hx hb dL_law_579 (by decide) ?_
                              refine lv_iadd hx hb dL_law_580 ?_
                              replace hf := evn_b1 hf
                              obtain ⟨v126, e95, hf⟩ := hf
                              refine mm_sld F hH hX hb0 e95 dL_law_581 ?_
                              replace hf := evn_b1 hf
                              obtain ⟨u, e96, hf⟩ := hf
                              obtain ⟨fs, ek⟩ := ck_i e96
                              replace hf := evn_b1 hf
                              obtain ⟨v127, e97, hf⟩ := hf
                              refine mm_ci (va_runV (As := [.int v126]) (rest := []) ⟨hx, hb, hml, hown, hts⟩ (m_X0_weak l G a1 v126 σ v127 e97) (cwV 1 hts (lw_V q572 q573 q574 q62 q575) rfl rfl rfl (by decide +kernel) ⟨Nat.le_of_ble_eq_true rfl, Nat.le_of_ble_eq_true rfl⟩) (mm_preV F.2.2.2.2.2 hH (ci := 0) rfl ek) rfl rfl hl.1 rfl (lv_room (Nat.le_of_ble_eq_true rfl)) dL_law_582 hg) hH (fun H locs hH => ?_)
                              refine lv_aload_n hx hb dL_law_585 rfl (lv_at hl 2 rfl) ?_
                              refine lv_aload_n hx hb dL_law_586 rfl (lv_at hl 0 rfl) ?_
                              refine lv_iload_n hx hb dL_law_587 rfl (lv_at hl 3 rfl) ?_
                              refine lv_iconst (v := 1) hx hb dL_law_588 (by decide) ?_
                              refine lv_iadd hx hb dL_law_589 ?_
                              replace hf := evn_b1 hf
                              obtain ⟨v128, e98, hf⟩ := hf
                              refine mm_sld F hH hX hb0 e98 dL_law_590 ?_
                              replace hf := evn_b1 hf
                              obtain ⟨u, e99, hf⟩ := hf
                              obtain ⟨fs, ek⟩ := ck_i e99
                              replace hf := evn_b1 hf
                              obtain ⟨v129, e100, hf⟩ := hf
                              refine mm_ci (va_runV (As := [.int v128]) (rest := [.int v127]) ⟨hx, hb, hml, hown, hts⟩ (m_X2_weak l G a2 v128 σ v129 e100) (cwV 1 hts (lw_V q1199 q1200 q1201 q67 q1202) rfl rfl rfl (by decide +kernel) ⟨Nat.le_of_ble_eq_true rfl, Nat.le_of_ble_eq_true rfl⟩) (mm_preV F.2.2.2.2.2 hH (ci := 2) rfl ek) rfl rfl hl.1 rfl (lv_room (Nat.le_of_ble_eq_true rfl)) dL_law_591 hg) hH (fun H locs hH => ?_)
                              refine lv_icmp_eq (tgt := 898) hx hb dL_law_594 (by decide) (fun c130 => ?_) (fun c130 => ?_)
                              · rw [if_pos c130] at hf
                                refine lv_iinc (v := x3 + (4 : Int32)) (lv' := [(3, .int (x3 + (4 : Int32))), (0, .ref bq), (1, .ref a1), (2, .ref a2)]) hx hb dL_law_898 hl (k := 3) rfl rfl (by decide) rfl (fun ls hl => ?_)
                                refine lv_goto (tgt := 18) hx hb dL_law_901 (by decide) ?_
                                rw [evn_l] at hf
                                exact IH18 a1 a2 (x3 + (4 : Int32)) cn cs σ _ _ _ hH (lv_sub hl [1, 2, 3, 0] rfl) hf
                              · rw [if_neg c130] at hf
                                refine lv_iconst (v := 0) hx hb dL_law_597 (by decide) ?_
                                cases hf
                            · rw [if_neg c15] at hf
                              by_cases c16 : (v2 &&& (31 : Int32)) = (13 : Int32)
                              · rw [if_pos c16] at hf
                                refine lv_tableIn (off := 567) (tgt := 599) hx hb dL_law_32 (by rw [c16]; decide) (by rw [c16]; decide) (by rw [c16]; rfl) (by decide) ?_
                                refine lv_aload_n hx hb dL_law_599 rfl (lv_at hl 1 rfl) ?_
                                replace hf := evn_b1 hf
                                obtain ⟨u, e101, hf⟩ := hf
                                obtain ⟨fs, ek⟩ := ck_i e101
                                replace hf := evn_b1 hf
                                obtain ⟨u, e102, hf⟩ := hf
                                have hg := grd_i e102
                                replace hf := evn_b2 hf
                                obtain ⟨v131, σ132, e103, hf⟩ := hf
                                refine mm_ci (va_runV (As := []) (rest := []) ⟨hx, hb, hml, hown, hts⟩ (m_X0_collect l G a1 σ σ132 v131 e103) (cwV 0 hts (lw_V q576 q577 q578 q62 q579) rfl rfl rfl (by decide +kernel) ⟨Nat.le_of_ble_eq_true rfl, Nat.le_of_ble_eq_true rfl⟩) (mm_preV F.2.2.2.2.2 hH (ci := 0) rfl ek) rfl rfl hl.1 rfl (lv_room (Nat.le_of_ble_eq_true rfl)) dL_law_600 hg) hH (fun H locs hH => ?_)
                                refine lv_aload_n hx hb dL_law_603 rfl (lv_at hl 2 rfl) ?_
                                replace hf := evn_b1 hf
                                obtain ⟨u, e104, hf⟩ := hf
                                obtain ⟨fs, ek⟩ := ck_i e104
                                replace hf := evn_b2 hf
                                obtain ⟨v133, σ134, e105, hf⟩ := hf
                                refine mm_ci (va_runV (As := []) (rest := [.int v131]) ⟨hx, hb, hml, hown, hts⟩ (m_X2_collect l G a2 σ132 σ134 v133 e105) (cwV 0 hts (lw_V q1203 q1204 q1205 q67 q1206) rfl rfl rfl (by decide +kernel) ⟨Nat.le_of_ble_eq_true rfl, Nat.le_of_ble_eq_true rfl⟩) (mm_preV F.2.2.2.2.2 hH (ci := 2) rfl ek) rfl rfl hl.1 rfl (lv_room (Nat.le_of_ble_eq_true rfl)) dL_law_604 hg) hH (fun H locs hH => ?_)
                                refine lv_icmp_eq (tgt := 898) hx hb dL_law_607 (by decide) (fun c135 => ?_) (fun c135 => ?_)
                                · rw [if_pos c135] at hf
                                  refine lv_iinc (v := x3 + (4 : Int32)) (lv' := [(3, .int (x3 + (4 : Int32))), (0, .ref bq), (1, .ref a1), (2, .ref a2)]) hx hb dL_law_898 hl (k := 3) rfl rfl (by decide) rfl (fun ls hl => ?_)
                                  refine lv_goto (tgt := 18) hx hb dL_law_901 (by decide) ?_
                                  rw [evn_l] at hf
                                  exact IH18 a1 a2 (x3 + (4 : Int32)) (cn + 2) (cs + 14) σ134 _ _ _ hH (lv_sub hl [1, 2, 3, 0] rfl) hf
                                · rw [if_neg c135] at hf
                                  refine lv_iconst (v := 0) hx hb dL_law_610 (by decide) ?_
                                  cases hf
                              · rw [if_neg c16] at hf
                                by_cases c17 : (v2 &&& (31 : Int32)) = (14 : Int32)
                                · rw [if_pos c17] at hf
                                  refine lv_tableIn (off := 580) (tgt := 612) hx hb dL_law_32 (by rw [c17]; decide) (by rw [c17]; decide) (by rw [c17]; rfl) (by decide) ?_
                                  refine lv_aload_n hx hb dL_law_612 rfl (lv_at hl 1 rfl) ?_
                                  refine lv_aload_n hx hb dL_law_613 rfl (lv_at hl 0 rfl) ?_
                                  refine lv_iload_n hx hb dL_law_614 rfl (lv_at hl 3 rfl) ?_
                                  refine lv_iconst (v := 1) hx hb dL_law_615 (by decide) ?_
                                  refine lv_iadd hx hb dL_law_616 ?_
                                  replace hf := evn_b1 hf
                                  obtain ⟨v136, e106, hf⟩ := hf
                                  refine mm_sld F hH hX hb0 e106 dL_law_617 ?_
                                  replace hf := evn_b1 hf
                                  obtain ⟨u, e107, hf⟩ := hf
                                  obtain ⟨fs, ek⟩ := ck_i e107
                                  replace hf := evn_b1 hf
                                  obtain ⟨v137, e108, hf⟩ := hf
                                  refine mm_ci (va_runV (As := [.int v136]) (rest := []) ⟨hx, hb, hml, hown, hts⟩ (m_X0_moved l G a1 v136 σ v137 e108) (cwV 1 hts (lw_V q640 q641 q642 q62 q643) rfl rfl rfl (by decide +kernel) ⟨Nat.le_of_ble_eq_true rfl, Nat.le_of_ble_eq_true rfl⟩) (mm_preV F.2.2.2.2.2 hH (ci := 0) rfl ek) rfl rfl hl.1 rfl (lv_room (Nat.le_of_ble_eq_true rfl)) dL_law_618 hg) hH (fun H locs hH => ?_)
                                  refine lv_aload_n hx hb dL_law_621 rfl (lv_at hl 2 rfl) ?_
                                  refine lv_aload_n hx hb dL_law_622 rfl (lv_at hl 0 rfl) ?_
                                  refine lv_iload_n hx hb dL_law_623 rfl (lv_at hl 3 rfl) ?_
                                  refine lv_iconst (v := 1) hx hb dL_law_624 (by decide) ?_
                                  refine lv_iadd hx hb dL_law_625 ?_
                                  replace hf := evn_b1 hf
                                  obtain ⟨v138, e109, hf⟩ := hf
                                  refine mm_sld F hH hX hb0 e109 dL_law_626 ?_
                                  replace hf := evn_b1 hf
                                  obtain ⟨u, e110, hf⟩ := hf
                                  obtain ⟨fs, ek⟩ := ck_i e110
                                  replace hf := evn_b1 hf
                                  obtain ⟨v139, e111, hf⟩ := hf
                                  refine mm_ci (va_runV (As := [.int v138]) (rest := [.int v137]) ⟨hx, hb, hml, hown, hts⟩ (m_X2_moved l G a2 v138 σ v139 e111) (cwV 1 hts (lw_V q1235 q1236 q1237 q67 q1238) rfl rfl rfl (by decide +kernel) ⟨Nat.le_of_ble_eq_true rfl, Nat.le_of_ble_eq_true rfl⟩) (mm_preV F.2.2.2.2.2 hH (ci := 2) rfl ek) rfl rfl hl.1 rfl (lv_room (Nat.le_of_ble_eq_true rfl)) dL_law_627 hg) hH (fun H locs hH => ?_)
                                  refine lv_icmp_eq (tgt := 898) hx hb dL_law_630 (by decide) (fun c140 => ?_) (fun c140 => ?_)
                                  · rw [if_pos c140] at hf
                                    refine lv_iinc (v := x3 + (4 : Int32)) (lv' := [(3, .int (x3 + (4 : Int32))), (0, .ref bq), (1, .ref a1), (2, .ref a2)]) hx hb dL_law_898 hl (k := 3) rfl rfl (by decide) rfl (fun ls hl => ?_)
                                    refine lv_goto (tgt := 18) hx hb dL_law_901 (by decide) ?_
                                    rw [evn_l] at hf
                                    exact IH18 a1 a2 (x3 + (4 : Int32)) cn cs σ _ _ _ hH (lv_sub hl [1, 2, 3, 0] rfl) hf
                                  · rw [if_neg c140] at hf
                                    refine lv_iconst (v := 0) hx hb dL_law_633 (by decide) ?_
                                    cases hf
                                · rw [if_neg c17] at hf
                                  by_cases c18 : (v2 &&& (31 : Int32)) = (15 : Int32)
                                  · rw [if_pos c18] at hf
                                    refine lv_tableIn (off := 603) (tgt := 635) hx hb dL_law_32 (by rw [c18]; decide) (by rw [c18]; decide) (by rw [c18]; rfl) (by decide) ?_
                                    refine lv_aload_n hx hb dL_law_635 rfl (lv_at hl 1 rfl) ?_
                                    refine lv_aload_n hx hb dL_law_636 rfl (lv_at hl 0 rfl) ?_
                                    refine lv_iload_n hx hb dL_law_637 rfl (lv_at hl 3 rfl) ?_
                                    refine lv_iconst (v := 1) hx hb dL_law_638 (by decide) ?_
                                    refine lv_iadd hx hb dL_law_639 ?_
                                    replace hf := evn_b1 hf
                                    obtain ⟨v141, e112, hf⟩ := hf
                                    refine mm_sld F hH hX hb0 e112 dL_law_640 ?_
                                    replace hf := evn_b1 hf
                                    obtain ⟨u, e113, hf⟩ := hf
                                    obtain ⟨fs, ek⟩ := ck_i e113
                                    replace hf := evn_b1 hf
                                    obtain ⟨v142, e114, hf⟩ := hf
                                    refine mm_ci (va_runV (As := [.int v141]) (rest := []) ⟨hx, hb, hml, hown, hts⟩ (m_X0_report l G a1 v141 σ v142 e114) (cwV 1 hts (lw_V q645 q646 q647 q62 q648) rfl rfl rfl (by decide +kernel) ⟨Nat.le_of_ble_eq_true rfl, Nat.le_of_ble_eq_true rfl⟩) (mm_preV F.2.2.2.2.2 hH (ci := 0) rfl ek) rfl rfl hl.1 rfl (lv_room (Nat.le_of_ble_eq_true rfl)) dL_law_641 hg) hH (fun H locs hH => ?_)
                                    refine lv_aload_n hx hb dL_law_644 rfl (lv_at hl 2 rfl) ?_
                                    refine lv_aload_n hx hb dL_law_645 rfl (lv_at hl 0 rfl) ?_
                                    refine lv_iload_n hx hb dL_law_646 rfl (lv_at hl 3 rfl) ?_
                                    refine lv_iconst (v := 1) hx hb dL_law_647 (by decide) ?_
                                    refine lv_iadd hx hb dL_law_648 ?_
                                    replace hf := evn_b1 hf
                                    obtain ⟨v143, e115, hf⟩ := hf
                                    refine mm_sld F hH hX hb0 e115 dL_law_649 ?_
                                    replace hf := evn_b1 hf
                                    obtain ⟨u, e116, hf⟩ := hf
                                    obtain ⟨fs, ek⟩ := ck_i e116
                                    replace hf := evn_b1 hf
                                    obtain ⟨v144, e117, hf⟩ := hf
                                    refine mm_ci (va_runV (As := [.int v143]) (rest := [.int v142]) ⟨hx, hb, hml, hown, hts⟩ (m_X2_report l G a2 v143 σ v144 e117) (cwV 1 hts (lw_V q1239 q1240 q1241 q67 q1242) rfl rfl rfl (by decide +kernel) ⟨Nat.le_of_ble_eq_true rfl, Nat.le_of_ble_eq_true rfl⟩) (mm_preV F.2.2.2.2.2 hH (ci := 2) rfl ek) rfl rfl hl.1 rfl (lv_room (Nat.le_of_ble_eq_true rfl)) dL_law_650 hg) hH (fun H locs hH => ?_)
                                    refine lv_icmp_eq (tgt := 898) hx hb dL_law_653 (by decide) (fun c145 => ?_) (fun c145 => ?_)
                                    · rw [if_pos c145] at hf
                                      refine lv_iinc (v := x3 + (4 : Int32)) (lv' := [(3, .int (x3 + (4 : Int32))), (0, .ref bq), (1, .ref a1), (2, .ref a2)]) hx hb dL_law_898 hl (k := 3) rfl rfl (by decide) rfl (fun ls hl => ?_)
                                      refine lv_goto (tgt := 18) hx hb dL_law_901 (by decide) ?_
                                      rw [evn_l] at hf
                                      exact IH18 a1 a2 (x3 + (4 : Int32)) cn cs σ _ _ _ hH (lv_sub hl [1, 2, 3, 0] rfl) hf
                                    · rw [if_neg c145] at hf
                                      refine lv_iconst (v := 0) hx hb dL_law_656 (by decide) ?_
                                      cases hf
                                  · rw [if_neg c18] at hf
                                    by_cases c19 : (v2 &&& (31 : Int32)) = (16 : Int32)
                                    · rw [if_pos c19] at hf
                                      refine lv_tableIn (off := 626) (tgt := 658) hx hb dL_law_32 (by rw [c19]; decide) (by rw [c19]; decide) (by rw [c19]; rfl) (by decide) ?_
                                      refine lv_aload_n hx hb dL_law_658 rfl (lv_at hl 1 rfl) ?_
                                      replace hf := evn_b1 hf
                                      obtain ⟨u, e118, hf⟩ := hf
                                      obtain ⟨fs, ek⟩ := ck_i e118
                                      replace hf := evn_b1 hf
                                      obtain ⟨u, e119, hf⟩ := hf
                                      have hg := grd_i e119
                                      replace hf := evn_b2 hf
                                      obtain ⟨v146, σ147, e120, hf⟩ := hf
                                      refine mm_ci (va_runV (As := []) (rest := []) ⟨hx, hb, hml, hown, hts⟩ (m_X0_garbage l G a1 σ σ147 v146 e120) (cwV 0 hts (lw_V q653 q654 q655 q62 q656) rfl rfl rfl (by decide +kernel) ⟨Nat.le_of_ble_eq_true rfl, Nat.le_of_ble_eq_true rfl⟩) (mm_preV F.2.2.2.2.2 hH (ci := 0) rfl ek) rfl rfl hl.1 rfl (lv_room (Nat.le_of_ble_eq_true rfl)) dL_law_659 hg) hH (fun H locs hH => ?_)
                                      refine lv_aload_n hx hb dL_law_662 rfl (lv_at hl 2 rfl) ?_
                                      replace hf := evn_b1 hf
                                      obtain ⟨u, e121, hf⟩ := hf
                                      obtain ⟨fs, ek⟩ := ck_i e121
                                      replace hf := evn_b2 hf
                                      obtain ⟨v148, σ149, e122, hf⟩ := hf
                                      refine mm_ci (va_runV (As := []) (rest := [.int v146]) ⟨hx, hb, hml, hown, hts⟩ (m_X2_garbage l G a2 σ147 σ149 v148 e122) (cwV 0 hts (lw_V q1243 q1244 q1245 q67 q1246) rfl rfl rfl (by decide +kernel) ⟨Nat.le_of_ble_eq_true rfl, Nat.le_of_ble_eq_true rfl⟩) (mm_preV F.2.2.2.2.2 hH (ci := 2) rfl ek) rfl rfl hl.1 rfl (lv_room (Nat.le_of_ble_eq_true rfl)) dL_law_663 hg) hH (fun H locs hH => ?_)
                                      refine lv_icmp_eq (tgt := 898) hx hb dL_law_666 (by decide) (fun c150 => ?_) (fun c150 => ?_)
                                      · rw [if_pos c150] at hf
                                        refine lv_iinc (v := x3 + (4 : Int32)) (lv' := [(3, .int (x3 + (4 : Int32))), (0, .ref bq), (1, .ref a1), (2, .ref a2)]) hx hb dL_law_898 hl (k := 3) rfl rfl (by decide) rfl (fun ls hl => ?_)
                                        refine lv_goto (tgt := 18) hx hb dL_law_901 (by decide) ?_
                                        rw [evn_l] at hf
                                        exact IH18 a1 a2 (x3 + (4 : Int32)) (cn + 1) (cs + 8) σ149 _ _ _ hH (lv_sub hl [1, 2, 3, 0] rfl) hf
                                      · rw [if_neg c150] at hf
                                        refine lv_iconst (v := 0) hx hb dL_law_669 (by decide) ?_
                                        cases hf
                                    · rw [if_neg c19] at hf
                                      by_cases c20 : (v2 &&& (31 : Int32)) = (17 : Int32)
                                      · rw [if_pos c20] at hf
                                        refine lv_tableIn (off := 639) (tgt := 671) hx hb dL_law_32 (by rw [c20]; decide) (by rw [c20]; decide) (by rw [c20]; rfl) (by decide) ?_
                                        refine lv_aload_n hx hb dL_law_671 rfl (lv_at hl 1 rfl) ?_
                                        refine lv_aload_n hx hb dL_law_672 rfl (lv_at hl 0 rfl) ?_
                                        refine lv_iload_n hx hb dL_law_673 rfl (lv_at hl 3 rfl) ?_
                                        refine lv_iconst (v := 1) hx hb dL_law_674 (by decide) ?_
                                        refine lv_iadd hx hb dL_law_675 ?_
                                        replace hf := evn_b1 hf
                                        obtain ⟨v151, e123, hf⟩ := hf
                                        refine mm_sld F hH hX hb0 e123 dL_law_676 ?_
                                        replace hf := evn_b1 hf
                                        obtain ⟨u, e124, hf⟩ := hf
                                        obtain ⟨fs, ek⟩ := ck_i e124
                                        replace hf := evn_b1 hf
                                        obtain ⟨u, e125, hf⟩ := hf
                                        have hg := grd_i e125
                                        replace hf := evn_b2 hf
                                        obtain ⟨v152, σ153, e126, hf⟩ := hf
                                        refine mm_ci (va_runV (As := [.int v151]) (rest := []) ⟨hx, hb, hml, hown, hts⟩ (m_X0_distance l G a1 v151 σ σ153 v152 e126) (cwV 1 hts (lw_V q670 q671 q672 q62 q673) rfl rfl rfl (by decide +kernel) ⟨Nat.le_of_ble_eq_true rfl, Nat.le_of_ble_eq_true rfl⟩) (mm_preV F.2.2.2.2.2 hH (ci := 0) rfl ek) rfl rfl hl.1 rfl (lv_room (Nat.le_of_ble_eq_true rfl)) dL_law_677 hg) hH (fun H locs hH => ?_)
                                        refine lv_aload_n hx hb dL_law_680 rfl (lv_at hl 2 rfl) ?_
                                        refine lv_aload_n hx hb dL_law_681 rfl (lv_at hl 0 rfl) ?_
                                        refine lv_iload_n hx hb dL_law_682 rfl (lv_at hl 3 rfl) ?_
                                        refine lv_iconst (v := 1) hx hb dL_law_683 (by decide) ?_
                                        refine lv_iadd hx hb dL_law_684 ?_
                                        replace hf := evn_b1 hf
                                        obtain ⟨v154, e127, hf⟩ := hf
                                        refine mm_sld F hH hX hb0 e127 dL_law_685 ?_
                                        replace hf := evn_b1 hf
                                        obtain ⟨u, e128, hf⟩ := hf
                                        obtain ⟨fs, ek⟩ := ck_i e128
                                        replace hf := evn_b2 hf
                                        obtain ⟨v155, σ156, e129, hf⟩ := hf
                                        refine mm_ci (va_runV (As := [.int v154]) (rest := [.int v152]) ⟨hx, hb, hml, hown, hts⟩ (m_X2_distance l G a2 v154 σ153 σ156 v155 e129) (cwV 1 hts (lw_V q1251 q1252 q1253 q67 q1254) rfl rfl rfl (by decide +kernel) ⟨Nat.le_of_ble_eq_true rfl, Nat.le_of_ble_eq_true rfl⟩) (mm_preV F.2.2.2.2.2 hH (ci := 2) rfl ek) rfl rfl hl.1 rfl (lv_room (Nat.le_of_ble_eq_true rfl)) dL_law_686 hg) hH (fun H locs hH => ?_)
                                        refine lv_icmp_eq (tgt := 898) hx hb dL_law_689 (by decide) (fun c157 => ?_) (fun c157 => ?_)
                                        · rw [if_pos c157] at hf
                                          refine lv_iinc (v := x3 + (4 : Int32)) (lv' := [(3, .int (x3 + (4 : Int32))), (0, .ref bq), (1, .ref a1), (2, .ref a2)]) hx hb dL_law_898 hl (k := 3) rfl rfl (by decide) rfl (fun ls hl => ?_)
                                          refine lv_goto (tgt := 18) hx hb dL_law_901 (by decide) ?_
                                          rw [evn_l] at hf
                                          exact IH18 a1 a2 (x3 + (4 : Int32)) (cn + 1) (cs + 3) σ156 _ _ _ hH (lv_sub hl [1, 2, 3, 0] rfl) hf
                                        · rw [if_neg c157] at hf
                                          refine lv_iconst (v := 0) hx hb dL_law_692 (by decide) ?_
                                          cases hf
                                      · rw [if_neg c20] at hf
                                        by_cases c21 : (v2 &&& (31 : Int32)) = (18 : Int32)
                                        · rw [if_pos c21] at hf
                                          refine lv_tableIn (off := 662) (tgt := 694) hx hb dL_law_32 (by rw [c21]; decide) (by rw [c21]; decide) (by rw [c21]; rfl) (by decide) ?_
                                          refine lv_aload_n hx hb dL_law_694 rfl (lv_at hl 1 rfl) ?_
                                          refine lv_aload_n hx hb dL_law_695 rfl (lv_at hl 0 rfl) ?_
                                          refine lv_iload_n hx hb dL_law_696 rfl (lv_at hl 3 rfl) ?_
                                          refine lv_iconst (v := 1) hx hb dL_law_697 (by decide) ?_
                                          refine lv_iadd hx hb dL_law_698 ?_
                                          replace hf := evn_b1 hf
                                          obtain ⟨v158, e130, hf⟩ := hf
                                          refine mm_sld F hH hX hb0 e130 dL_law_699 ?_
                                          replace hf := evn_b1 hf
                                          obtain ⟨u, e131, hf⟩ := hf
                                          obtain ⟨fs, ek⟩ := ck_i e131
                                          replace hf := evn_b1 hf
                                          obtain ⟨u, e132, hf⟩ := hf
                                          have hg := grd_i e132
                                          replace hf := evn_b2 hf
                                          obtain ⟨v159, σ160, e133, hf⟩ := hf
                                          refine mm_ci (va_runV (As := [.int v158]) (rest := []) ⟨hx, hb, hml, hown, hts⟩ (m_X0_retained l G a1 v158 σ σ160 v159 e133) (cwV 1 hts (lw_V q702 q703 q704 q62 q705) rfl rfl rfl (by decide +kernel) ⟨Nat.le_of_ble_eq_true rfl, Nat.le_of_ble_eq_true rfl⟩) (mm_preV F.2.2.2.2.2 hH (ci := 0) rfl ek) rfl rfl hl.1 rfl (lv_room (Nat.le_of_ble_eq_true rfl)) dL_law_700 hg) hH (fun H locs hH => ?_)
                                          refine lv_aload_n hx hb dL_law_703 rfl (lv_at hl 2 rfl) ?_
                                          refine lv_aload_n hx hb dL_law_704 rfl (lv_at hl 0 rfl) ?_
                                          refine lv_iload_n hx hb dL_law_705 rfl (lv_at hl 3 rfl) ?_
                                          refine lv_iconst (v := 1) hx hb dL_law_706 (by decide) ?_
                                          refine lv_iadd hx hb dL_law_707 ?_
                                          replace hf := evn_b1 hf
                                          obtain ⟨v161, e134, hf⟩ := hf
                                          refine mm_sld F hH hX hb0 e134 dL_law_708 ?_
                                          replace hf := evn_b1 hf
                                          obtain ⟨u, e135, hf⟩ := hf
                                          obtain ⟨fs, ek⟩ := ck_i e135
                                          replace hf := evn_b2 hf
                                          obtain ⟨v162, σ163, e136, hf⟩ := hf
                                          refine mm_ci (va_runV (As := [.int v161]) (rest := [.int v159]) ⟨hx, hb, hml, hown, hts⟩ (m_X2_retained l G a2 v161 σ160 σ163 v162 e136) (cwV 1 hts (lw_V q1255 q1256 q1257 q67 q1258) rfl rfl rfl (by decide +kernel) ⟨Nat.le_of_ble_eq_true rfl, Nat.le_of_ble_eq_true rfl⟩) (mm_preV F.2.2.2.2.2 hH (ci := 2) rfl ek) rfl rfl hl.1 rfl (lv_room (Nat.le_of_ble_eq_true rfl)) dL_law_709 hg) hH (fun H locs hH => ?_)
                                          refine lv_icmp_eq (tgt := 898) hx hb dL_law_712 (by decide) (fun c164 => ?_) (fun c164 => ?_)
                                          · rw [if_pos c164] at hf
                                            refine lv_iinc (v := x3 + (4 : Int32)) (lv' := [(3, .int (x3 + (4 : Int32))), (0, .ref bq), (1, .ref a1), (2, .ref a2)]) hx hb dL_law_898 hl (k := 3) rfl rfl (by decide) rfl (fun ls hl => ?_)
                                            refine lv_goto (tgt := 18) hx hb dL_law_901 (by decide) ?_
                                            rw [evn_l] at hf
                                            exact IH18 a1 a2 (x3 + (4 : Int32)) (cn + 2) (cs + 16) σ163 _ _ _ hH (lv_sub hl [1, 2, 3, 0] rfl) hf
                                          · rw [if_neg c164] at hf
                                            refine lv_iconst (v := 0) hx hb dL_law_715 (by decide) ?_
                                            cases hf
                                        · rw [if_neg c21] at hf
                                          by_cases c22 : (v2 &&& (31 : Int32)) = (19 : Int32)
                                          · rw [if_pos c22] at hf
                                            refine lv_tableIn (off := 685) (tgt := 717) hx hb dL_law_32 (by rw [c22]; decide) (by rw [c22]; decide) (by rw [c22]; rfl) (by decide) ?_
                                            refine lv_aload_n hx hb dL_law_717 rfl (lv_at hl 1 rfl) ?_
                                            refine lv_aload_n hx hb dL_law_718 rfl (lv_at hl 0 rfl) ?_
                                            refine lv_iload_n hx hb dL_law_719 rfl (lv_at hl 3 rfl) ?_
                                            refine lv_iconst (v := 1) hx hb dL_law_720 (by decide) ?_
                                            refine lv_iadd hx hb dL_law_721 ?_
                                            replace hf := evn_b1 hf
                                            obtain ⟨v165, e137, hf⟩ := hf
                                            refine mm_sld F hH hX hb0 e137 dL_law_722 ?_
                                            replace hf := evn_b1 hf
                                            obtain ⟨u, e138, hf⟩ := hf
                                            obtain ⟨fs, ek⟩ := ck_i e138
                                            replace hf := evn_b1 hf
                                            obtain ⟨v166, e139, hf⟩ := hf
                                            refine mm_ci (va_runV (As := [.int v165]) (rest := []) ⟨hx, hb, hml, hown, hts⟩ (m_X0_free l G a1 v165 σ v166 e139) (cwV 1 hts (lw_V q706 q707 q708 q62 q709) rfl rfl rfl (by decide +kernel) ⟨Nat.le_of_ble_eq_true rfl, Nat.le_of_ble_eq_true rfl⟩) (mm_preV F.2.2.2.2.2 hH (ci := 0) rfl ek) rfl rfl hl.1 rfl (lv_room (Nat.le_of_ble_eq_true rfl)) dL_law_723 hg) hH (fun H locs hH => ?_)
                                            refine lv_aload_n hx hb dL_law_726 rfl (lv_at hl 2 rfl) ?_
                                            refine lv_aload_n hx hb dL_law_727 rfl (lv_at hl 0 rfl) ?_
                                            refine lv_iload_n hx hb dL_law_728 rfl (lv_at hl 3 rfl) ?_
                                            refine lv_iconst (v := 1) hx hb dL_law_729 (by decide) ?_
                                            refine lv_iadd hx hb dL_law_730 ?_
                                            replace hf := evn_b1 hf
                                            obtain ⟨v167, e140, hf⟩ := hf
                                            refine mm_sld F hH hX hb0 e140 dL_law_731 ?_
                                            replace hf := evn_b1 hf
                                            obtain ⟨u, e141, hf⟩ := hf
                                            obtain ⟨fs, ek⟩ := ck_i e141
                                            replace hf := evn_b1 hf
                                            obtain ⟨v168, e142, hf⟩ := hf
                                            refine mm_ci (va_runV (As := [.int v167]) (rest := [.int v166]) ⟨hx, hb, hml, hown, hts⟩ (m_X2_free l G a2 v167 σ v168 e142) (cwV 1 hts (lw_V q1259 q1260 q1261 q67 q1262) rfl rfl rfl (by decide +kernel) ⟨Nat.le_of_ble_eq_true rfl, Nat.le_of_ble_eq_true rfl⟩) (mm_preV F.2.2.2.2.2 hH (ci := 2) rfl ek) rfl rfl hl.1 rfl (lv_room (Nat.le_of_ble_eq_true rfl)) dL_law_732 hg) hH (fun H locs hH => ?_)
                                            refine lv_icmp_eq (tgt := 898) hx hb dL_law_735 (by decide) (fun c169 => ?_) (fun c169 => ?_)
                                            · rw [if_pos c169] at hf
                                              refine lv_iinc (v := x3 + (4 : Int32)) (lv' := [(3, .int (x3 + (4 : Int32))), (0, .ref bq), (1, .ref a1), (2, .ref a2)]) hx hb dL_law_898 hl (k := 3) rfl rfl (by decide) rfl (fun ls hl => ?_)
                                              refine lv_goto (tgt := 18) hx hb dL_law_901 (by decide) ?_
                                              rw [evn_l] at hf
                                              exact IH18 a1 a2 (x3 + (4 : Int32)) cn cs σ _ _ _ hH (lv_sub hl [1, 2, 3, 0] rfl) hf
                                            · rw [if_neg c169] at hf
                                              refine lv_iconst (v := 0) hx hb dL_law_738 (by decide) ?_
                                              cases hf
                                          · rw [if_neg c22] at hf
                                            by_cases c23 : (v2 &&& (31 : Int32)) = (20 : Int32)
                                            · rw [if_pos c23] at hf
                                              refine lv_tableIn (off := 708) (tgt := 740) hx hb dL_law_32 (by rw [c23]; decide) (by rw [c23]; decide) (by rw [c23]; rfl) (by decide) ?_
                                              refine lv_aload_n hx hb dL_law_740 rfl (lv_at hl 1 rfl) ?_
                                              refine lv_aload_n hx hb dL_law_741 rfl (lv_at hl 0 rfl) ?_
                                              refine lv_iload_n hx hb dL_law_742 rfl (lv_at hl 3 rfl) ?_
                                              refine lv_iconst (v := 1) hx hb dL_law_743 (by decide) ?_
                                              refine lv_iadd hx hb dL_law_744 ?_
                                              replace hf := evn_b1 hf
                                              obtain ⟨v170, e143, hf⟩ := hf
                                              refine mm_sld F hH hX hb0 e143 dL_law_745 ?_
                                              replace hf := evn_b1 hf
                                              obtain ⟨u, e144, hf⟩ := hf
                                              obtain ⟨fs, ek⟩ := ck_i e144
                                              replace hf := evn_b2 hf
                                              obtain ⟨v171, σ172, e145, hf⟩ := hf
                                              refine mm_ci (va_runV (As := [.int v170]) (rest := []) ⟨hx, hb, hml, hown, hts⟩ (m_X0_type l G a1 v170 σ σ172 v171 e145) (cwV 1 hts (lw_V q713 q714 q715 q62 q716) rfl rfl rfl (by decide +kernel) ⟨Nat.le_of_ble_eq_true rfl, Nat.le_of_ble_eq_true rfl⟩) (mm_preV F.2.2.2.2.2 hH (ci := 0) rfl ek) rfl rfl hl.1 rfl (lv_room (Nat.le_of_ble_eq_true rfl)) dL_law_746 hg) hH (fun H locs hH => ?_)
                                              refine lv_aload_n hx hb dL_law_749 rfl (lv_at hl 2 rfl) ?_
                                              refine lv_aload_n hx hb dL_law_750 rfl (lv_at hl 0 rfl) ?_
                                              refine lv_iload_n hx hb dL_law_751 rfl (lv_at hl 3 rfl) ?_
                                              refine lv_iconst (v := 1) hx hb dL_law_752 (by decide) ?_
                                              refine lv_iadd hx hb dL_law_753 ?_
                                              replace hf := evn_b1 hf
                                              obtain ⟨v173, e146, hf⟩ := hf
                                              refine mm_sld F hH hX hb0 e146 dL_law_754 ?_
                                              replace hf := evn_b1 hf
                                              obtain ⟨u, e147, hf⟩ := hf
                                              obtain ⟨fs, ek⟩ := ck_i e147
                                              replace hf := evn_b2 hf
                                              obtain ⟨v174, σ175, e148, hf⟩ := hf
                                              refine mm_ci (va_runV (As := [.int v173]) (rest := [.int v171]) ⟨hx, hb, hml, hown, hts⟩ (m_X2_type l G a2 v173 σ172 σ175 v174 e148) (cwV 1 hts (lw_V q1263 q1264 q1265 q67 q1266) rfl rfl rfl (by decide +kernel) ⟨Nat.le_of_ble_eq_true rfl, Nat.le_of_ble_eq_true rfl⟩) (mm_preV F.2.2.2.2.2 hH (ci := 2) rfl ek) rfl rfl hl.1 rfl (lv_room (Nat.le_of_ble_eq_true rfl)) dL_law_755 hg) hH (fun H locs hH => ?_)
                                              refine lv_icmp_eq (tgt := 898) hx hb dL_law_758 (by decide) (fun c176 => ?_) (fun c176 => ?_)
                                              · rw [if_pos c176] at hf
                                                refine lv_iinc (v := x3 + (4 : Int32)) (lv' := [(3, .int (x3 + (4 : Int32))), (0, .ref bq), (1, .ref a1), (2, .ref a2)]) hx hb dL_law_898 hl (k := 3) rfl rfl (by decide) rfl (fun ls hl => ?_)
                                                refine lv_goto (tgt := 18) hx hb dL_law_901 (by decide) ?_
                                                rw [evn_l] at hf
                                                exact IH18 a1 a2 (x3 + (4 : Int32)) cn cs σ175 _ _ _ hH (lv_sub hl [1, 2, 3, 0] rfl) hf
                                              · rw [if_neg c176] at hf
                                                refine lv_iconst (v := 0) hx hb dL_law_761 (by decide) ?_
                                                cases hf
                                            · rw [if_neg c23] at hf
                                              by_cases c24 : (v2 &&& (31 : Int32)) = (21 : Int32)
                                              · rw [if_pos c24] at hf
                                                refine lv_tableIn (off := 731) (tgt := 763) hx hb dL_law_32 (by rw [c24]; decide) (by rw [c24]; decide) (by rw [c24]; rfl) (by decide) ?_
                                                refine lv_aload_n hx hb dL_law_763 rfl (lv_at hl 1 rfl) ?_
                                                replace hf := evn_b1 hf
                                                obtain ⟨u, e149, hf⟩ := hf
                                                obtain ⟨fs, ek⟩ := ck_i e149
                                                replace hf := evn_b2 hf
                                                obtain ⟨v177, σ178, e150, hf⟩ := hf
                                                refine mm_ci (va_runV (As := []) (rest := []) ⟨hx, hb, hml, hown, hts⟩ (m_X0_clearText l G a1 σ σ178 v177 e150) (cwV 0 hts (lw_V q718 q719 q720 q62 q721) rfl rfl rfl (by decide +kernel) ⟨Nat.le_of_ble_eq_true rfl, Nat.le_of_ble_eq_true rfl⟩) (mm_preV F.2.2.2.2.2 hH (ci := 0) rfl ek) rfl rfl hl.1 rfl (lv_room (Nat.le_of_ble_eq_true rfl)) dL_law_764 hg) hH (fun H locs hH => ?_)
                                                refine lv_aload_n hx hb dL_law_767 rfl (lv_at hl 2 rfl) ?_
                                                replace hf := evn_b1 hf
                                                obtain ⟨u, e151, hf⟩ := hf
                                                obtain ⟨fs, ek⟩ := ck_i e151
                                                replace hf := evn_b2 hf
                                                obtain ⟨v179, σ180, e152, hf⟩ := hf
                                                refine mm_ci (va_runV (As := []) (rest := [.int v177]) ⟨hx, hb, hml, hown, hts⟩ (m_X2_clearText l G a2 σ178 σ180 v179 e152) (cwV 0 hts (lw_V q1267 q1268 q1269 q67 q1270) rfl rfl rfl (by decide +kernel) ⟨Nat.le_of_ble_eq_true rfl, Nat.le_of_ble_eq_true rfl⟩) (mm_preV F.2.2.2.2.2 hH (ci := 2) rfl ek) rfl rfl hl.1 rfl (lv_room (Nat.le_of_ble_eq_true rfl)) dL_law_768 hg) hH (fun H locs hH => ?_)
                                                refine lv_icmp_eq (tgt := 898) hx hb dL_law_771 (by decide) (fun c181 => ?_) (fun c181 => ?_)
                                                · rw [if_pos c181] at hf
                                                  refine lv_iinc (v := x3 + (4 : Int32)) (lv' := [(3, .int (x3 + (4 : Int32))), (0, .ref bq), (1, .ref a1), (2, .ref a2)]) hx hb dL_law_898 hl (k := 3) rfl rfl (by decide) rfl (fun ls hl => ?_)
                                                  refine lv_goto (tgt := 18) hx hb dL_law_901 (by decide) ?_
                                                  rw [evn_l] at hf
                                                  exact IH18 a1 a2 (x3 + (4 : Int32)) cn cs σ180 _ _ _ hH (lv_sub hl [1, 2, 3, 0] rfl) hf
                                                · rw [if_neg c181] at hf
                                                  refine lv_iconst (v := 0) hx hb dL_law_774 (by decide) ?_
                                                  cases hf
                                              · rw [if_neg c24] at hf
                                                by_cases c25 : (v2 &&& (31 : Int32)) = (22 : Int32)
                                                · rw [if_pos c25] at hf
                                                  refine lv_tableIn (off := 744) (tgt := 776) hx hb dL_law_32 (by rw [c25]; decide) (by rw [c25]; decide) (by rw [c25]; rfl) (by decide) ?_
                                                  refine lv_aload_n hx hb dL_law_776 rfl (lv_at hl 1 rfl) ?_
                                                  replace hf := evn_b1 hf
                                                  obtain ⟨u, e153, hf⟩ := hf
                                                  obtain ⟨fs, ek⟩ := ck_i e153
                                                  replace hf := evn_b1 hf
                                                  obtain ⟨u, e154, hf⟩ := hf
                                                  have hg := grd_i e154
                                                  replace hf := evn_b2 hf
                                                  obtain ⟨v182, σ183, e155, hf⟩ := hf
                                                  refine mm_ci (vy_runVW (As := []) (rest := []) ⟨hx, hb, hml, hown, hts⟩ (m_X0_fault l G a1 σ σ183 v182 e155) (vy_cwVW 0 hts (lw_VW q722 q723 q724 q62 q725) rfl rfl rfl (by decide +kernel) ⟨Nat.le_of_ble_eq_true rfl, Nat.le_of_ble_eq_true rfl⟩) (mm_preV F.2.2.2.2.2 hH (ci := 0) rfl ek) rfl rfl hl.1 rfl (lv_room (Nat.le_of_ble_eq_true rfl)) dL_law_777 hg) hH (fun H locs hH => ?_)
                                                  refine lv_aload_n hx hb dL_law_780 rfl (lv_at hl 2 rfl) ?_
                                                  replace hf := evn_b1 hf
                                                  obtain ⟨u, e156, hf⟩ := hf
                                                  obtain ⟨fs, ek⟩ := ck_i e156
                                                  replace hf := evn_b2 hf
                                                  obtain ⟨v184, σ185, e157, hf⟩ := hf
                                                  refine mm_ci (va_runV (As := []) (rest := [.int v182]) ⟨hx, hb, hml, hown, hts⟩ (m_X2_fault l G a2 σ183 σ185 v184 e157) (cwV 0 hts (lw_V q1271 q1272 q1273 q67 q1274) rfl rfl rfl (by decide +kernel) ⟨Nat.le_of_ble_eq_true rfl, Nat.le_of_ble_eq_true rfl⟩) (mm_preV F.2.2.2.2.2 hH (ci := 2) rfl ek) rfl rfl hl.1 rfl (lv_room (Nat.le_of_ble_eq_true rfl)) dL_law_781 hg) hH (fun H locs hH => ?_)
                                                  refine lv_icmp_eq (tgt := 898) hx hb dL_law_784 (by decide) (fun c186 => ?_) (fun c186 => ?_)
                                                  · rw [if_pos c186] at hf
                                                    refine lv_iinc (v := x3 + (4 : Int32)) (lv' := [(3, .int (x3 + (4 : Int32))), (0, .ref bq), (1, .ref a1), (2, .ref a2)]) hx hb dL_law_898 hl (k := 3) rfl rfl (by decide) rfl (fun ls hl => ?_)
                                                    refine lv_goto (tgt := 18) hx hb dL_law_901 (by decide) ?_
                                                    rw [evn_l] at hf
                                                    exact IH18 a1 a2 (x3 + (4 : Int32)) (cn + 332) (cs + 12106) σ185 _ _ _ hH (lv_sub hl [1, 2, 3, 0] rfl) hf
                                                  · rw [if_neg c186] at hf
                                                    refine lv_iconst (v := 0) hx hb dL_law_787 (by decide) ?_
                                                    cases hf
                                                · rw [if_neg c25] at hf
                                                  by_cases c26 : (v2 &&& (31 : Int32)) = (23 : Int32)
                                                  · rw [if_pos c26] at hf
                                                    refine lv_tableIn (off := 757) (tgt := 789) hx hb dL_law_32 (by rw [c26]; decide) (by rw [c26]; decide) (by rw [c26]; rfl) (by decide) ?_
                                                    refine lv_aload_n hx hb dL_law_789 rfl (lv_at hl 1 rfl) ?_
                                                    replace hf := evn_b1 hf
                                                    obtain ⟨u, e158, hf⟩ := hf
                                                    obtain ⟨fs, ek⟩ := ck_i e158
                                                    replace hf := evn_b1 hf
                                                    obtain ⟨u, e159, hf⟩ := hf
                                                    have hg := grd_i e159
                                                    replace hf := evn_b2 hf
                                                    obtain ⟨v187, σ188, e160, hf⟩ := hf
                                                    refine mm_ci (vy_runVW (As := []) (rest := []) ⟨hx, hb, hml, hown, hts⟩ (m_X0_run l G a1 σ σ188 v187 e160) (vy_cwVW 0 hts (lw_VW q932 q933 q934 q62 q935) rfl rfl rfl (by decide +kernel) ⟨Nat.le_of_ble_eq_true rfl, Nat.le_of_ble_eq_true rfl⟩) (mm_preV F.2.2.2.2.2 hH (ci := 0) rfl ek) rfl rfl hl.1 rfl (lv_room (Nat.le_of_ble_eq_true rfl)) dL_law_790 hg) hH (fun H locs hH => ?_)
                                                    refine lv_aload_n hx hb dL_law_793 rfl (lv_at hl 2 rfl) ?_
                                                    replace hf := evn_b1 hf
                                                    obtain ⟨u, e161, hf⟩ := hf
                                                    obtain ⟨fs, ek⟩ := ck_i e161
                                                    replace hf := evn_b2 hf
                                                    obtain ⟨v189, σ190, e162, hf⟩ := hf
                                                    refine mm_ci (va_runV (As := []) (rest := [.int v187]) ⟨hx, hb, hml, hown, hts⟩ (m_X2_run l G a2 σ188 σ190 v189 e162) (cwV 0 hts (lw_V q1307 q1308 q1309 q67 q1310) rfl rfl rfl (by decide +kernel) ⟨Nat.le_of_ble_eq_true rfl, Nat.le_of_ble_eq_true rfl⟩) (mm_preV F.2.2.2.2.2 hH (ci := 2) rfl ek) rfl rfl hl.1 rfl (lv_room (Nat.le_of_ble_eq_true rfl)) dL_law_794 hg) hH (fun H locs hH => ?_)
                                                    refine lv_icmp_eq (tgt := 898) hx hb dL_law_797 (by decide) (fun c191 => ?_) (fun c191 => ?_)
                                                    · rw [if_pos c191] at hf
                                                      refine lv_iinc (v := x3 + (4 : Int32)) (lv' := [(3, .int (x3 + (4 : Int32))), (0, .ref bq), (1, .ref a1), (2, .ref a2)]) hx hb dL_law_898 hl (k := 3) rfl rfl (by decide) rfl (fun ls hl => ?_)
                                                      refine lv_goto (tgt := 18) hx hb dL_law_901 (by decide) ?_
                                                      rw [evn_l] at hf
                                                      exact IH18 a1 a2 (x3 + (4 : Int32)) (cn + 500) (cs + 24000) σ190 _ _ _ hH (lv_sub hl [1, 2, 3, 0] rfl) hf
                                                    · rw [if_neg c191] at hf
                                                      refine lv_iconst (v := 0) hx hb dL_law_800 (by decide) ?_
                                                      cases hf
                                                  · rw [if_neg c26] at hf
                                                    by_cases c27 : (v2 &&& (31 : Int32)) = (24 : Int32)
                                                    · rw [if_pos c27] at hf
                                                      refine lv_tableIn (off := 770) (tgt := 802) hx hb dL_law_32 (by rw [c27]; decide) (by rw [c27]; decide) (by rw [c27]; rfl) (by decide) ?_
                                                      refine lv_aload_n hx hb dL_law_802 rfl (lv_at hl 1 rfl) ?_
                                                      replace hf := evn_b1 hf
                                                      obtain ⟨u, e163, hf⟩ := hf
                                                      obtain ⟨fs, ek⟩ := ck_i e163
                                                      replace hf := evn_b1 hf
                                                      obtain ⟨v192, e164, hf⟩ := hf
                                                      refine mm_ci (va_runV (As := []) (rest := []) ⟨hx, hb, hml, hown, hts⟩ (m_X0_refusal l G a1 σ v192 e164) (cwV 0 hts (lw_V q986 q987 q988 q62 q989) rfl rfl rfl (by decide +kernel) ⟨Nat.le_of_ble_eq_true rfl, Nat.le_of_ble_eq_true rfl⟩) (mm_preV F.2.2.2.2.2 hH (ci := 0) rfl ek) rfl rfl hl.1 rfl (lv_room (Nat.le_of_ble_eq_true rfl)) dL_law_803 hg) hH (fun H locs hH => ?_)
                                                      refine lv_aload_n hx hb dL_law_806 rfl (lv_at hl 2 rfl) ?_
                                                      replace hf := evn_b1 hf
                                                      obtain ⟨u, e165, hf⟩ := hf
                                                      obtain ⟨fs, ek⟩ := ck_i e165
                                                      replace hf := evn_b1 hf
                                                      obtain ⟨v193, e166, hf⟩ := hf
                                                      refine mm_ci (va_runV (As := []) (rest := [.int v192]) ⟨hx, hb, hml, hown, hts⟩ (m_X2_refusal l G a2 σ v193 e166) (cwV 0 hts (lw_V q1322 q1323 q1324 q67 q1325) rfl rfl rfl (by decide +kernel) ⟨Nat.le_of_ble_eq_true rfl, Nat.le_of_ble_eq_true rfl⟩) (mm_preV F.2.2.2.2.2 hH (ci := 2) rfl ek) rfl rfl hl.1 rfl (lv_room (Nat.le_of_ble_eq_true rfl)) dL_law_807 hg) hH (fun H locs hH => ?_)
                                                      refine lv_icmp_eq (tgt := 898) hx hb dL_law_810 (by decide) (fun c194 => ?_) (fun c194 => ?_)
                                                      · rw [if_pos c194] at hf
                                                        refine lv_iinc (v := x3 + (4 : Int32)) (lv' := [(3, .int (x3 + (4 : Int32))), (0, .ref bq), (1, .ref a1), (2, .ref a2)]) hx hb dL_law_898 hl (k := 3) rfl rfl (by decide) rfl (fun ls hl => ?_)
                                                        refine lv_goto (tgt := 18) hx hb dL_law_901 (by decide) ?_
                                                        rw [evn_l] at hf
                                                        exact IH18 a1 a2 (x3 + (4 : Int32)) cn cs σ _ _ _ hH (lv_sub hl [1, 2, 3, 0] rfl) hf
                                                      · rw [if_neg c194] at hf
                                                        refine lv_iconst (v := 0) hx hb dL_law_813 (by decide) ?_
                                                        cases hf
                                                    · rw [if_neg c27] at hf
                                                      by_cases c28 : (v2 &&& (31 : Int32)) = (25 : Int32)
                                                      · rw [if_pos c28] at hf
                                                        refine lv_tableIn (off := 783) (tgt := 815) hx hb dL_law_32 (by rw [c28]; decide) (by rw [c28]; decide) (by rw [c28]; rfl) (by decide) ?_
                                                        refine lv_aload_n hx hb dL_law_815 rfl (lv_at hl 1 rfl) ?_
                                                        refine lv_aload_n hx hb dL_law_816 rfl (lv_at hl 0 rfl) ?_
                                                        refine lv_iload_n hx hb dL_law_817 rfl (lv_at hl 3 rfl) ?_
                                                        refine lv_iconst (v := 1) hx hb dL_law_818 (by decide) ?_
                                                        refine lv_iadd hx hb dL_law_819 ?_
                                                        replace hf := evn_b1 hf
                                                        obtain ⟨v195, e167, hf⟩ := hf
                                                        refine mm_sld F hH hX hb0 e167 dL_law_820 ?_
                                                        replace hf := evn_b1 hf
                                                        obtain ⟨u, e168, hf⟩ := hf
                                                        obtain ⟨fs, ek⟩ := ck_i e168
                                                        replace hf := evn_b1 hf
                                                        obtain ⟨u, e169, hf⟩ := hf
                                                        have hg := grd_i e169
                                                        replace hf := evn_b2 hf
                                                        obtain ⟨v196, σ197, e170, hf⟩ := hf
                                                        refine mm_ci (va_runV (As := [.int v195]) (rest := []) ⟨hx, hb, hml, hown, hts⟩ (m_X0_save l G a1 v195 σ σ197 v196 e170) (cwV 1 hts (lw_V q990 q991 q992 q62 q993) rfl rfl rfl (by decide +kernel) ⟨Nat.le_of_ble_eq_true rfl, Nat.le_of_ble_eq_true rfl⟩) (mm_preV F.2.2.2.2.2 hH (ci := 0) rfl ek) rfl rfl hl.1 rfl (lv_room (Nat.le_of_ble_eq_true rfl)) dL_law_821 hg) hH (fun H locs hH => ?_)
                                                        refine lv_aload_n hx hb dL_law_824 rfl (lv_at hl 2 rfl) ?_
                                                        refine lv_aload_n hx hb dL_law_825 rfl (lv_at hl 0 rfl) ?_
                                                        refine lv_iload_n hx hb dL_law_826 rfl (lv_at hl 3 rfl) ?_
                                                        refine lv_iconst (v := 1) hx hb dL_law_827 (by decide) ?_
                                                        refine lv_iadd hx hb dL_law_828 ?_
                                                        replace hf := evn_b1 hf
                                                        obtain ⟨v198, e171, hf⟩ := hf
                                                        refine mm_sld F hH hX hb0 e171 dL_law_829 ?_
                                                        replace hf := evn_b1 hf
                                                        obtain ⟨u, e172, hf⟩ := hf
                                                        obtain ⟨fs, ek⟩ := ck_i e172
                                                        replace hf := evn_b2 hf
                                                        obtain ⟨v199, σ200, e173, hf⟩ := hf
                                                        refine mm_ci (va_runV (As := [.int v198]) (rest := [.int v196]) ⟨hx, hb, hml, hown, hts⟩ (m_X2_save l G a2 v198 σ197 σ200 v199 e173) (cwV 1 hts (lw_V q1326 q1327 q1328 q67 q1329) rfl rfl rfl (by decide +kernel) ⟨Nat.le_of_ble_eq_true rfl, Nat.le_of_ble_eq_true rfl⟩) (mm_preV F.2.2.2.2.2 hH (ci := 2) rfl ek) rfl rfl hl.1 rfl (lv_room (Nat.le_of_ble_eq_true rfl)) dL_law_830 hg) hH (fun H locs hH => ?_)
                                                        refine lv_icmp_eq (tgt := 898) hx hb dL_law_833 (by decide) (fun c201 => ?_) (fun c201 => ?_)
                                                        · rw [if_pos c201] at hf
                                                          refine lv_iinc (v := x3 + (4 : Int32)) (lv' := [(3, .int (x3 + (4 : Int32))), (0, .ref bq), (1, .ref a1), (2, .ref a2)]) hx hb dL_law_898 hl (k := 3) rfl rfl (by decide) rfl (fun ls hl => ?_)
                                                          refine lv_goto (tgt := 18) hx hb dL_law_901 (by decide) ?_
                                                          rw [evn_l] at hf
                                                          exact IH18 a1 a2 (x3 + (4 : Int32)) (cn + 901) (cs + 55011) σ200 _ _ _ hH (lv_sub hl [1, 2, 3, 0] rfl) hf
                                                        · rw [if_neg c201] at hf
                                                          refine lv_iconst (v := 0) hx hb dL_law_836 (by decide) ?_
                                                          cases hf
                                                      · rw [if_neg c28] at hf
                                                        by_cases c29 : (v2 &&& (31 : Int32)) = (26 : Int32)
                                                        · rw [if_pos c29] at hf
                                                          refine lv_tableIn (off := 806) (tgt := 838) hx hb dL_law_32 (by rw [c29]; decide) (by rw [c29]; decide) (by rw [c29]; rfl) (by decide) ?_
                                                          refine lv_aload_n hx hb dL_law_838 rfl (lv_at hl 1 rfl) ?_
                                                          refine lv_aload_n hx hb dL_law_839 rfl (lv_at hl 0 rfl) ?_
                                                          refine lv_iload_n hx hb dL_law_840 rfl (lv_at hl 3 rfl) ?_
                                                          refine lv_iconst (v := 1) hx hb dL_law_841 (by decide) ?_
                                                          refine lv_iadd hx hb dL_law_842 ?_
                                                          replace hf := evn_b1 hf
                                                          obtain ⟨v202, e174, hf⟩ := hf
                                                          refine mm_sld F hH hX hb0 e174 dL_law_843 ?_
                                                          replace hf := evn_b1 hf
                                                          obtain ⟨u, e175, hf⟩ := hf
                                                          obtain ⟨fs, ek⟩ := ck_i e175
                                                          replace hf := evn_b1 hf
                                                          obtain ⟨u, e176, hf⟩ := hf
                                                          have hg := grd_i e176
                                                          replace hf := evn_b2 hf
                                                          obtain ⟨v203, σ204, e177, hf⟩ := hf
                                                          refine mm_ci (va_runV (As := [.int v202]) (rest := []) ⟨hx, hb, hml, hown, hts⟩ (m_X0_restore l G a1 v202 σ σ204 v203 e177) (cwV 1 hts (lw_V q1007 q1008 q1009 q62 q1010) rfl rfl rfl (by decide +kernel) ⟨Nat.le_of_ble_eq_true rfl, Nat.le_of_ble_eq_true rfl⟩) (mm_preV F.2.2.2.2.2 hH (ci := 0) rfl ek) rfl rfl hl.1 rfl (lv_room (Nat.le_of_ble_eq_true rfl)) dL_law_844 hg) hH (fun H locs hH => ?_)
                                                          refine lv_aload_n hx hb dL_law_847 rfl (lv_at hl 2 rfl) ?_
                                                          refine lv_aload_n hx hb dL_law_848 rfl (lv_at hl 0 rfl) ?_
                                                          refine lv_iload_n hx hb dL_law_849 rfl (lv_at hl 3 rfl) ?_
                                                          refine lv_iconst (v := 1) hx hb dL_law_850 (by decide) ?_
                                                          refine lv_iadd hx hb dL_law_851 ?_
                                                          replace hf := evn_b1 hf
                                                          obtain ⟨v205, e178, hf⟩ := hf
                                                          refine mm_sld F hH hX hb0 e178 dL_law_852 ?_
                                                          replace hf := evn_b1 hf
                                                          obtain ⟨u, e179, hf⟩ := hf
                                                          obtain ⟨fs, ek⟩ := ck_i e179
                                                          replace hf := evn_b2 hf
                                                          obtain ⟨v206, σ207, e180, hf⟩ := hf
                                                          refine mm_ci (va_runV (As := [.int v205]) (rest := [.int v203]) ⟨hx, hb, hml, hown, hts⟩ (m_X2_restore l G a2 v205 σ204 σ207 v206 e180) (cwV 1 hts (lw_V q1330 q1331 q1332 q67 q1333) rfl rfl rfl (by decide +kernel) ⟨Nat.le_of_ble_eq_true rfl, Nat.le_of_ble_eq_true rfl⟩) (mm_preV F.2.2.2.2.2 hH (ci := 2) rfl ek) rfl rfl hl.1 rfl (lv_room (Nat.le_of_ble_eq_true rfl)) dL_law_853 hg) hH (fun H locs hH => ?_)
                                                          refine lv_icmp_eq (tgt := 898) hx hb dL_law_856 (by decide) (fun c208 => ?_) (fun c208 => ?_)
                                                          · rw [if_pos c208] at hf
                                                            refine lv_iinc (v := x3 + (4 : Int32)) (lv' := [(3, .int (x3 + (4 : Int32))), (0, .ref bq), (1, .ref a1), (2, .ref a2)]) hx hb dL_law_898 hl (k := 3) rfl rfl (by decide) rfl (fun ls hl => ?_)
                                                            refine lv_goto (tgt := 18) hx hb dL_law_901 (by decide) ?_
                                                            rw [evn_l] at hf
                                                            exact IH18 a1 a2 (x3 + (4 : Int32)) (cn + 901) (cs + 55011) σ207 _ _ _ hH (lv_sub hl [1, 2, 3, 0] rfl) hf
                                                          · rw [if_neg c208] at hf
                                                            refine lv_iconst (v := 0) hx hb dL_law_859 (by decide) ?_
                                                            cases hf
                                                        · rw [if_neg c29] at hf
                                                          by_cases c30 : (v2 &&& (31 : Int32)) = (27 : Int32)
                                                          · rw [if_pos c30] at hf
                                                            refine lv_tableIn (off := 829) (tgt := 861) hx hb dL_law_32 (by rw [c30]; decide) (by rw [c30]; decide) (by rw [c30]; rfl) (by decide) ?_
                                                            refine lv_aload_n hx hb dL_law_861 rfl (lv_at hl 1 rfl) ?_
                                                            refine lv_aload_n hx hb dL_law_862 rfl (lv_at hl 0 rfl) ?_
                                                            refine lv_iload_n hx hb dL_law_863 rfl (lv_at hl 3 rfl) ?_
                                                            refine lv_iconst (v := 1) hx hb dL_law_864 (by decide) ?_
                                                            refine lv_iadd hx hb dL_law_865 ?_
                                                            replace hf := evn_b1 hf
                                                            obtain ⟨v209, e181, hf⟩ := hf
                                                            refine mm_sld F hH hX hb0 e181 dL_law_866 ?_
                                                            replace hf := evn_b1 hf
                                                            obtain ⟨u, e182, hf⟩ := hf
                                                            obtain ⟨fs, ek⟩ := ck_i e182
                                                            replace hf := evn_b1 hf
                                                            obtain ⟨v210, e183, hf⟩ := hf
                                                            refine mm_ci (va_runV (As := [.int v209]) (rest := []) ⟨hx, hb, hml, hown, hts⟩ (m_X0_count l G a1 v209 σ v210 e183) (cwV 1 hts (lw_V q1011 q1012 q1013 q62 q1014) rfl rfl rfl (by decide +kernel) ⟨Nat.le_of_ble_eq_true rfl, Nat.le_of_ble_eq_true rfl⟩) (mm_preV F.2.2.2.2.2 hH (ci := 0) rfl ek) rfl rfl hl.1 rfl (lv_room (Nat.le_of_ble_eq_true rfl)) dL_law_867 hg) hH (fun H locs hH => ?_)
                                                            refine lv_aload_n hx hb dL_law_870 rfl (lv_at hl 2 rfl) ?_
                                                            refine lv_aload_n hx hb dL_law_871 rfl (lv_at hl 0 rfl) ?_
                                                            refine lv_iload_n hx hb dL_law_872 rfl (lv_at hl 3 rfl) ?_
                                                            refine lv_iconst (v := 1) hx hb dL_law_873 (by decide) ?_
                                                            refine lv_iadd hx hb dL_law_874 ?_
                                                            replace hf := evn_b1 hf
                                                            obtain ⟨v211, e184, hf⟩ := hf
                                                            refine mm_sld F hH hX hb0 e184 dL_law_875 ?_
                                                            replace hf := evn_b1 hf
                                                            obtain ⟨u, e185, hf⟩ := hf
                                                            obtain ⟨fs, ek⟩ := ck_i e185
                                                            replace hf := evn_b1 hf
                                                            obtain ⟨v212, e186, hf⟩ := hf
                                                            refine mm_ci (va_runV (As := [.int v211]) (rest := [.int v210]) ⟨hx, hb, hml, hown, hts⟩ (m_X2_count l G a2 v211 σ v212 e186) (cwV 1 hts (lw_V q1334 q1335 q1336 q67 q1337) rfl rfl rfl (by decide +kernel) ⟨Nat.le_of_ble_eq_true rfl, Nat.le_of_ble_eq_true rfl⟩) (mm_preV F.2.2.2.2.2 hH (ci := 2) rfl ek) rfl rfl hl.1 rfl (lv_room (Nat.le_of_ble_eq_true rfl)) dL_law_876 hg) hH (fun H locs hH => ?_)
                                                            refine lv_icmp_eq (tgt := 898) hx hb dL_law_879 (by decide) (fun c213 => ?_) (fun c213 => ?_)
                                                            · rw [if_pos c213] at hf
                                                              refine lv_iinc (v := x3 + (4 : Int32)) (lv' := [(3, .int (x3 + (4 : Int32))), (0, .ref bq), (1, .ref a1), (2, .ref a2)]) hx hb dL_law_898 hl (k := 3) rfl rfl (by decide) rfl (fun ls hl => ?_)
                                                              refine lv_goto (tgt := 18) hx hb dL_law_901 (by decide) ?_
                                                              rw [evn_l] at hf
                                                              exact IH18 a1 a2 (x3 + (4 : Int32)) cn cs σ _ _ _ hH (lv_sub hl [1, 2, 3, 0] rfl) hf
                                                            · rw [if_neg c213] at hf
                                                              refine lv_iconst (v := 0) hx hb dL_law_882 (by decide) ?_
                                                              cases hf
                                                          · rw [if_neg c30] at hf
                                                            by_cases c31 : (v2 &&& (31 : Int32)) = (28 : Int32)
                                                            · rw [if_pos c31] at hf
                                                              refine lv_tableIn (off := 852) (tgt := 884) hx hb dL_law_32 (by rw [c31]; decide) (by rw [c31]; decide) (by rw [c31]; rfl) (by decide) ?_
                                                              refine lv_aload_n hx hb dL_law_884 rfl (lv_at hl 1 rfl) ?_
                                                              replace hf := evn_b1 hf
                                                              obtain ⟨u, e187, hf⟩ := hf
                                                              obtain ⟨fs, ek⟩ := ck_i e187
                                                              replace hf := evn_b1 hf
                                                              obtain ⟨u, e188, hf⟩ := hf
                                                              have hg := grd_i e188
                                                              replace hf := evn_b2 hf
                                                              obtain ⟨w214, σ215, e189, hf⟩ := hf
                                                              refine mm_cl_ (va_runV (As := []) (rest := []) ⟨hx, hb, hml, hown, hts⟩ (m_X0_digest l G a1 σ σ215 w214 e189) (cwV 0 hts (lw_V q1015 q1016 q1017 q62 q1018) rfl rfl rfl (by decide +kernel) ⟨Nat.le_of_ble_eq_true rfl, Nat.le_of_ble_eq_true rfl⟩) (mm_preV F.2.2.2.2.2 hH (ci := 0) rfl ek) rfl rfl hl.1 rfl (lv_room (Nat.le_of_ble_eq_true rfl)) dL_law_885 hg) hH (fun H locs hH => ?_)
                                                              refine lv_aload_n hx hb dL_law_888 rfl (lv_at hl 2 rfl) ?_
                                                              replace hf := evn_b1 hf
                                                              obtain ⟨u, e190, hf⟩ := hf
                                                              obtain ⟨fs, ek⟩ := ck_i e190
                                                              replace hf := evn_b2 hf
                                                              obtain ⟨w216, σ217, e191, hf⟩ := hf
                                                              refine mm_cl_ (va_runV (As := []) (rest := [.long w214]) ⟨hx, hb, hml, hown, hts⟩ (m_X2_digest l G a2 σ215 σ217 w216 e191) (cwV 0 hts (lw_V q1338 q1339 q1340 q67 q1341) rfl rfl rfl (by decide +kernel) ⟨Nat.le_of_ble_eq_true rfl, Nat.le_of_ble_eq_true rfl⟩) (mm_preV F.2.2.2.2.2 hH (ci := 2) rfl ek) rfl rfl hl.1 rfl (lv_room (Nat.le_of_ble_eq_true rfl)) dL_law_889 hg) hH (fun H locs hH => ?_)
                                                              refine W.lcmp hx hb dL_law_892 ?_
                                                              refine lv_if_eq (tgt := 898) hx hb dL_law_893 (by decide) (fun c218 => ?_) (fun c218 => ?_)
                                                              · rw [if_pos c218] at hf
                                                                refine lv_iinc (v := x3 + (4 : Int32)) (lv' := [(3, .int (x3 + (4 : Int32))), (0, .ref bq), (1, .ref a1), (2, .ref a2)]) hx hb dL_law_898 hl (k := 3) rfl rfl (by decide) rfl (fun ls hl => ?_)
                                                                refine lv_goto (tgt := 18) hx hb dL_law_901 (by decide) ?_
                                                                rw [evn_l] at hf
                                                                exact IH18 a1 a2 (x3 + (4 : Int32)) (cn + 1700) (cs + 13000) σ217 _ _ _ hH (lv_sub hl [1, 2, 3, 0] rfl) hf
                                                              · rw [if_neg c218] at hf
                                                                refine lv_iconst (v := 0) hx hb dL_law_896 (by decide) ?_
                                                                cases hf
                                                            · rw [if_neg c31] at hf
                                                              refine lv_tableOut (tgt := 898) hx hb dL_law_32 (by have h0 := lv_neT c3 (a := 0) rfl; have h1 := lv_neT c4 (a := 1) rfl; have h2 := lv_neT c5 (a := 2) rfl; have h3 := lv_neT c6 (a := 3) rfl; have h4 := lv_neT c7 (a := 4) rfl; have h5 := lv_neT c8 (a := 5) rfl; have h6 := lv_neT c9 (a := 6) rfl; have h7 := lv_neT c10 (a := 7) rfl; have h8 := lv_neT c11 (a := 8) rfl; have h9 := lv_neT c12 (a := 9) rfl; have h10 := lv_neT c13 (a := 10) rfl; have h11 := lv_neT c14 (a := 11) rfl; have h12 := lv_neT c15 (a := 12) rfl; have h13 := lv_neT c16 (a := 13) rfl; have h14 := lv_neT c17 (a := 14) rfl; have h15 := lv_neT c18 (a := 15) rfl; have h16 := lv_neT c19 (a := 16) rfl; have h17 := lv_neT c20 (a := 17) rfl; have h18 := lv_neT c21 (a := 18) rfl; have h19 := lv_neT c22 (a := 19) rfl; have h20 := lv_neT c23 (a := 20) rfl; have h21 := lv_neT c24 (a := 21) rfl; have h22 := lv_neT c25 (a := 22) rfl; have h23 := lv_neT c26 (a := 23) rfl; have h24 := lv_neT c27 (a := 24) rfl; have h25 := lv_neT c28 (a := 25) rfl; have h26 := lv_neT c29 (a := 26) rfl; have h27 := lv_neT c30 (a := 27) rfl; have h28 := lv_neT c31 (a := 28) rfl; omega) (by decide) ?_
                                                              refine lv_iinc (v := x3 + (4 : Int32)) (lv' := [(3, .int (x3 + (4 : Int32))), (0, .ref bq), (1, .ref a1), (2, .ref a2)]) hx hb dL_law_898 hl (k := 3) rfl rfl (by decide) rfl (fun ls hl => ?_)
                                                              refine lv_goto (tgt := 18) hx hb dL_law_901 (by decide) ?_
                                                              rw [evn_l] at hf
                                                              exact IH18 a1 a2 (x3 + (4 : Int32)) cn cs σ _ _ _ hH (lv_sub hl [1, 2, 3, 0] rfl) hf
set_option maxHeartbeats 4000000 in
theorem w_L_law_0 {p : Program} {l : Launch} {e : Env} {s : State} {m : MethodId} {av : Array Value} {below : List Frame} {meth : Method} {c : Code} {G : mm_G} {Q : State → Prop} {bq : Nat} {σf : mm_M} {n : Nat} {L : Nat} {xs : Nat → Int32} (F : mm_F p s m av c "IslandHeapLaw" cL_law 4 G) (hX : va_X bq L xs s s.heap) (hb0 : bq < s.heap.size ∧ ¬ mm_A G bq) (hend : ∀ (H : Heap) (ls : Array Slot) (locs : List Loc), (∀ q ∈ locs, mm_A G q.base) → W p l e room_1 s m av below meth c H locs 1200128 5501098 Q (F0 m 905 ls [.int 1])) (IH18 : ∀ (a1 : Nat) (a2 : Nat) (x3 : Int32) (cn cs : Nat) (σ : mm_M) (H : Heap) (locs : List Loc) (ls : Array Slot), mm_H G s σ H locs → lv_has ls 4 [(0, .ref bq), (1, .ref a1), (2, .ref a2), (3, .int x3)] → itn (s_L_law L xs) n (a1, a2, x3, cn, cs, σ) = some σf → W p l e room_1 s m av below meth c H locs cn cs Q (F0 m 18 ls []))    (σ : mm_M) (hf : evn (s_L_law L xs) n (g_L_law_0 L xs σ) = some σf) {H : Heap} {locs : List Loc} {ls : Array Slot} (hH : mm_H G s σ H locs) (hl : lv_has ls 4 [(0, .ref bq)]) : W p l e room_1 s m av below meth c H locs 0 0 Q (F0 m 0 ls []) := by
  have hx := F.1
  have hb := F.2.1
  have hml := F.2.2.1
  have hown := F.2.2.2.1
  have hts := F.2.2.2.2.1
  unfold g_L_law_0 at hf
  have hg : 0 ≤ 1200128 ∧ 0 ≤ 5501098 := ⟨Nat.zero_le _, Nat.zero_le _⟩
  replace hf := evn_b1 hf
  obtain ⟨u, e1, hf⟩ := hf
  have hg := grd_i e1
  replace hf := evn_b2 hf
  obtain ⟨q2, σ1, e2, hf⟩ := hf
  refine mm_new F hH mc_0 (hts _ q90) (hts _ q91) (hts _ q62) hg.1 hg.2 e2 dL_law_0 (fun H hH => ?_)
  refine lv_dup hx hb dL_law_3 rfl ?_
  replace hf := evn_b1 hf
  obtain ⟨u, e3, hf⟩ := hf
  have hg := grd_i e3
  replace hf := evn_b1 hf
  obtain ⟨σ3, e4, hf⟩ := hf
  refine mm_cv (va_runI (As := []) (rest := [.ref q2]) ⟨hx, hb, hml, hown, hts⟩ (m_X0_init l G q2 σ1 σ3 e4) (cwI 0 hts (lw_meth q94) rfl rfl rfl (hts _ q62) (hts _ q92) (hts _ q93) rfl (by decide +kernel) ⟨Nat.le_of_ble_eq_true rfl, Nat.le_of_ble_eq_true rfl⟩) (mm_preS F.2.2.2.2.2 hH) rfl rfl hl.1 rfl (lv_room (Nat.le_of_ble_eq_true rfl)) dL_law_4 hg) hH (fun H locs hH => ?_)
  refine lv_astore_n (lv' := [(1, .ref q2), (0, .ref bq)]) hx hb dL_law_7 rfl hl (by decide) rfl (fun ls hl => ?_)
  replace hf := evn_b1 hf
  obtain ⟨u, e5, hf⟩ := hf
  have hg := grd_i e5
  replace hf := evn_b2 hf
  obtain ⟨q5, σ4, e6, hf⟩ := hf
  refine mm_new F hH mc_2 (hts _ q1037) (hts _ q1038) (hts _ q67) hg.1 hg.2 e6 dL_law_8 (fun H hH => ?_)
  refine lv_dup hx hb dL_law_11 rfl ?_
  replace hf := evn_b1 hf
  obtain ⟨u, e7, hf⟩ := hf
  have hg := grd_i e7
  replace hf := evn_b1 hf
  obtain ⟨σ6, e8, hf⟩ := hf
  refine mm_cv (va_runI (As := []) (rest := [.ref q5]) ⟨hx, hb, hml, hown, hts⟩ (m_X2_init l G q5 σ4 σ6 e8) (cwI 0 hts (lw_meth q1041) rfl rfl rfl (hts _ q67) (hts _ q1039) (hts _ q1040) rfl (by decide +kernel) ⟨Nat.le_of_ble_eq_true rfl, Nat.le_of_ble_eq_true rfl⟩) (mm_preS F.2.2.2.2.2 hH) rfl rfl hl.1 rfl (lv_room (Nat.le_of_ble_eq_true rfl)) dL_law_12 hg) hH (fun H locs hH => ?_)
  refine lv_astore_n (lv' := [(2, .ref q5), (1, .ref q2), (0, .ref bq)]) hx hb dL_law_15 rfl hl (by decide) rfl (fun ls hl => ?_)
  refine lv_iconst (v := 0) hx hb dL_law_16 (by decide) ?_
  refine lv_istore_n (lv' := [(3, .int (0 : Int32)), (2, .ref q5), (1, .ref q2), (0, .ref bq)]) hx hb dL_law_17 rfl hl (by decide) rfl (fun ls hl => ?_)
  rw [evn_l] at hf
  exact IH18 q2 q5 (0 : Int32) ((((0 + 1) + 9) + 1) + 9) ((((0 + 7) + 706) + 18) + 5550) σ6 _ _ _ hH (lv_sub hl [3, 2, 1, 0] rfl) hf
set_option maxHeartbeats 4000000 in
theorem l_L_law {p : Program} {l : Launch} {e : Env} {s : State} {m : MethodId} {av : Array Value} {below : List Frame} {meth : Method} {c : Code} {G : mm_G} {Q : State → Prop} {bq : Nat} {σf : mm_M} {L : Nat} {xs : Nat → Int32} (F : mm_F p s m av c "IslandHeapLaw" cL_law 4 G) (hX : va_X bq L xs s s.heap) (hb0 : bq < s.heap.size ∧ ¬ mm_A G bq) (hend : ∀ (H : Heap) (ls : Array Slot) (locs : List Loc), (∀ q ∈ locs, mm_A G q.base) → W p l e room_1 s m av below meth c H locs 1200128 5501098 Q (F0 m 905 ls [.int 1])) : ∀ n : Nat, (∀ (a1 : Nat) (a2 : Nat) (x3 : Int32) (cn cs : Nat) (σ : mm_M) (H : Heap) (locs : List Loc) (ls : Array Slot), mm_H G s σ H locs → lv_has ls 4 [(0, .ref bq), (1, .ref a1), (2, .ref a2), (3, .int x3)] → itn (s_L_law L xs) n (a1, a2, x3, cn, cs, σ) = some σf → W p l e room_1 s m av below meth c H locs cn cs Q (F0 m 18 ls [])) := by
  intro n
  induction n with
  | zero =>
    exact fun a1 a2 x3 cn cs σ H locs ls hH hl hf => by cases hf
  | succ n ih =>
    have IH18 := ih
    intro a1 a2 x3 cn cs σ H locs ls hH hl hf
    rw [itn_s] at hf
    exact w_L_law_18 F hX hb0 hend IH18 a1 a2 x3 cn cs σ hf hH hl
/-- the law's walk -/
theorem lw_body {p : Program} {l : Launch} {e : Env} {s : State} {m : MethodId} {av : Array Value} {below : List Frame} {meth : Method} {c : Code} {G : mm_G} {Q : State → Prop} {bq : Nat} {L : Nat} {xs : Nat → Int32} {σ σf : mm_M} (F : mm_F p s m av c "IslandHeapLaw" cL_law 4 G) (hX : va_X bq L xs s s.heap) (hb0 : bq < s.heap.size ∧ ¬ mm_A G bq) (hend : ∀ (H : Heap) (ls : Array Slot) (locs : List Loc), (∀ q ∈ locs, mm_A G q.base) → W p l e room_1 s m av below meth c H locs 1200128 5501098 Q (F0 m 905 ls [.int 1])) (hf : f_L_law L xs σ = some σf) {H : Heap} {locs : List Loc} {ls : Array Slot} (hH : mm_H G s σ H locs) (hl : lv_has ls 4 [(0, .ref bq)]) : W p l e room_1 s m av below meth c H locs 0 0 Q (F0 m 0 ls []) := by
  unfold f_L_law at hf
  obtain ⟨n, hf⟩ := lgo_i hf
  have IH := l_L_law (l := l) (e := e) (below := below) (σf := σf) (L := L) (xs := xs) F hX hb0 hend n
  exact w_L_law_0 F hX hb0 hend IH σ hf hH hl
