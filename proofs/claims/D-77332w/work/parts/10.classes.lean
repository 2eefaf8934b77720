/-! the classes: what a new object holds; all that the rows ask of a class -/
set_option maxRecDepth 100000
abbrev df_0 : List mm_V := [vR none, vR none, vR none, vI 0, vI 0, vR none, vL 0]
theorem mc_0 : mm_C 0 RX0 TX0 7 tyX0 df_0 := ⟨rfl, in_X0, tyX0_ok, nmX0, fun j h => by rcases (show j = 0 ∨ j = 1 ∨ j = 2 ∨ j = 3 ∨ j = 4 ∨ j = 5 ∨ j = 6 by omega) with rfl | rfl | rfl | rfl | rfl | rfl | rfl <;> rfl⟩
abbrev df_1 : List mm_V := [vI 0, vI 0, vR none, vR none, vR none, vR none, vI 0, vI 0, vI 0, vR none, vR none]
theorem mc_1 : mm_C 1 RX1 TX1 11 tyX1 df_1 := ⟨rfl, in_X1, tyX1_ok, nmX1, fun j h => by rcases (show j = 0 ∨ j = 1 ∨ j = 2 ∨ j = 3 ∨ j = 4 ∨ j = 5 ∨ j = 6 ∨ j = 7 ∨ j = 8 ∨ j = 9 ∨ j = 10 by omega) with rfl | rfl | rfl | rfl | rfl | rfl | rfl | rfl | rfl | rfl | rfl <;> rfl⟩
abbrev df_2 : List mm_V := [vR none, vR none, vR none, vR none, vR none, vI 0, vI 0, vR none, vR none, vR none, vI 0, vI 0, vI 0, vR none, vI 0, vI 0, vI 0, vL 0]
theorem mc_2 : mm_C 2 RX2 TX2 18 tyX2 df_2 := ⟨rfl, in_X2, tyX2_ok, nmX2, fun j h => by rcases (show j = 0 ∨ j = 1 ∨ j = 2 ∨ j = 3 ∨ j = 4 ∨ j = 5 ∨ j = 6 ∨ j = 7 ∨ j = 8 ∨ j = 9 ∨ j = 10 ∨ j = 11 ∨ j = 12 ∨ j = 13 ∨ j = 14 ∨ j = 15 ∨ j = 16 ∨ j = 17 by omega) with rfl | rfl | rfl | rfl | rfl | rfl | rfl | rfl | rfl | rfl | rfl | rfl | rfl | rfl | rfl | rfl | rfl | rfl <;> rfl⟩
abbrev df_3 : List mm_V := [vI 0, vR none, vR none, vI 0, vI 0, vI 0]
theorem mc_3 : mm_C 3 RX3 TX3 6 tyX3 df_3 := ⟨rfl, in_X3, tyX3_ok, nmX3, fun j h => by rcases (show j = 0 ∨ j = 1 ∨ j = 2 ∨ j = 3 ∨ j = 4 ∨ j = 5 by omega) with rfl | rfl | rfl | rfl | rfl | rfl <;> rfl⟩
abbrev df_4 : List mm_V := [vR none, vR none, vR none, vI 0, vI 0, vI 0, vI 0, vI 0]
theorem mc_4 : mm_C 4 RX4 TX4 8 tyX4 df_4 := ⟨rfl, in_X4, tyX4_ok, nmX4, fun j h => by rcases (show j = 0 ∨ j = 1 ∨ j = 2 ∨ j = 3 ∨ j = 4 ∨ j = 5 ∨ j = 6 ∨ j = 7 by omega) with rfl | rfl | rfl | rfl | rfl | rfl | rfl | rfl <;> rfl⟩
abbrev df_5 : List mm_V := [vI 0, vI 0, vI 0, vI 0, vI 0, vI 0]
theorem mc_5 : mm_C 5 RX5 TX5 6 tyX5 df_5 := ⟨rfl, in_X5, tyX5_ok, nmX5, fun j h => by rcases (show j = 0 ∨ j = 1 ∨ j = 2 ∨ j = 3 ∨ j = 4 ∨ j = 5 by omega) with rfl | rfl | rfl | rfl | rfl | rfl <;> rfl⟩
abbrev df_6 : List mm_V := [vR none, vI 0, vR none]
theorem mc_6 : mm_C 6 RX6 TX6 3 tyX6 df_6 := ⟨rfl, in_X6, tyX6_ok, nmX6, fun j h => by rcases (show j = 0 ∨ j = 1 ∨ j = 2 by omega) with rfl | rfl | rfl <;> rfl⟩
abbrev df_7 : List mm_V := [vI 0, vR none, vR none]
theorem mc_7 : mm_C 7 RX7 TX7 3 tyX7 df_7 := ⟨rfl, in_X7, tyX7_ok, nmX7, fun j h => by rcases (show j = 0 ∨ j = 1 ∨ j = 2 by omega) with rfl | rfl | rfl <;> rfl⟩
abbrev df_8 : List mm_V := [vR none, vR none, vR none, vR none, vR none, vI 0, vI 0]
theorem mc_8 : mm_C 8 RX8 TX8 7 tyX8 df_8 := ⟨rfl, in_X8, tyX8_ok, nmX8, fun j h => by rcases (show j = 0 ∨ j = 1 ∨ j = 2 ∨ j = 3 ∨ j = 4 ∨ j = 5 ∨ j = 6 by omega) with rfl | rfl | rfl | rfl | rfl | rfl | rfl <;> rfl⟩
abbrev df_9 : List mm_V := [vI 0, vI 0]
theorem mc_9 : mm_C 9 RX9 TX9 2 tyX9 df_9 := ⟨rfl, in_X9, tyX9_ok, nmX9, fun j h => by rcases (show j = 0 ∨ j = 1 by omega) with rfl | rfl <;> rfl⟩
abbrev df_10 : List mm_V := [vI 0, vI 0]
theorem mc_10 : mm_C 10 RX10 TX10 2 tyX10 df_10 := ⟨rfl, in_X10, tyX10_ok, nmX10, fun j h => by rcases (show j = 0 ∨ j = 1 by omega) with rfl | rfl <;> rfl⟩
abbrev df_11 : List mm_V := [vI 0, vI 0]
theorem mc_11 : mm_C 11 RX11 TX11 2 tyX11 df_11 := ⟨rfl, in_X11, tyX11_ok, nmX11, fun j h => by rcases (show j = 0 ∨ j = 1 by omega) with rfl | rfl <;> rfl⟩
abbrev df_12 : List mm_V := [vI 0, vI 0, vI 0]
theorem mc_12 : mm_C 12 RX12 TX12 3 tyX12 df_12 := ⟨rfl, in_X12, tyX12_ok, nmX12, fun j h => by rcases (show j = 0 ∨ j = 1 ∨ j = 2 by omega) with rfl | rfl | rfl <;> rfl⟩
abbrev df_13 : List mm_V := [vI 0, vI 0]
theorem mc_13 : mm_C 13 RX13 TX13 2 tyX13 df_13 := ⟨rfl, in_X13, tyX13_ok, nmX13, fun j h => by rcases (show j = 0 ∨ j = 1 by omega) with rfl | rfl <;> rfl⟩
abbrev df_14 : List mm_V := []
theorem mc_14 : mm_C 14 RX14 TX14 0 tyX14 df_14 := ⟨rfl, fun w h => absurd h List.not_mem_nil, fun k h => absurd h (Nat.not_lt_zero k), fun a h => absurd h (Nat.not_lt_zero a), fun j h => absurd h (Nat.not_lt_zero j)⟩
abbrev df_15 : List mm_V := [vI 0, vR none, vI 0]
theorem mc_15 : mm_C 15 RJ2 TJ2 3 tyJ2 df_15 := ⟨rfl, in_J2, tyJ2_ok, nmJ2, fun j h => by rcases (show j = 0 ∨ j = 1 ∨ j = 2 by omega) with rfl | rfl | rfl <;> rfl⟩
