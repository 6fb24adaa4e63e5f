/-! tables: common facts (by tools/gen_tabs.py) -/
set_option maxRecDepth 100000
theorem cc_b_10 : (Int8.ofInt (10 : Int)).toInt32 = (10 : Int32) := by decide
theorem cc_b_100 : (Int8.ofInt (100 : Int)).toInt32 = (100 : Int32) := by decide
theorem cc_b_11 : (Int8.ofInt (11 : Int)).toInt32 = (11 : Int32) := by decide
theorem cc_b_12 : (Int8.ofInt (12 : Int)).toInt32 = (12 : Int32) := by decide
theorem cc_b_16 : (Int8.ofInt (16 : Int)).toInt32 = (16 : Int32) := by decide
theorem cc_b_20 : (Int8.ofInt (20 : Int)).toInt32 = (20 : Int32) := by decide
theorem cc_b_23 : (Int8.ofInt (23 : Int)).toInt32 = (23 : Int32) := by decide
theorem cc_b_24 : (Int8.ofInt (24 : Int)).toInt32 = (24 : Int32) := by decide
theorem cc_b_30 : (Int8.ofInt (30 : Int)).toInt32 = (30 : Int32) := by decide
theorem cc_b_32 : (Int8.ofInt (32 : Int)).toInt32 = (32 : Int32) := by decide
theorem cc_b_40 : (Int8.ofInt (40 : Int)).toInt32 = (40 : Int32) := by decide
theorem cc_b_48 : (Int8.ofInt (48 : Int)).toInt32 = (48 : Int32) := by decide
theorem cc_b_51 : (Int8.ofInt (51 : Int)).toInt32 = (51 : Int32) := by decide
theorem cc_b_52 : (Int8.ofInt (52 : Int)).toInt32 = (52 : Int32) := by decide
theorem cc_b_6 : (Int8.ofInt (6 : Int)).toInt32 = (6 : Int32) := by decide
theorem cc_b_64 : (Int8.ofInt (64 : Int)).toInt32 = (64 : Int32) := by decide
theorem cc_b_7 : (Int8.ofInt (7 : Int)).toInt32 = (7 : Int32) := by decide
theorem cc_b_8 : (Int8.ofInt (8 : Int)).toInt32 = (8 : Int32) := by decide
theorem cc_b_80 : (Int8.ofInt (80 : Int)).toInt32 = (80 : Int32) := by decide
theorem cc_b_m11 : (Int8.ofInt (-11 : Int)).toInt32 = (-11 : Int32) := by decide
theorem cc_b_m12 : (Int8.ofInt (-12 : Int)).toInt32 = (-12 : Int32) := by decide
theorem cc_b_m13 : (Int8.ofInt (-13 : Int)).toInt32 = (-13 : Int32) := by decide
theorem cc_b_m14 : (Int8.ofInt (-14 : Int)).toInt32 = (-14 : Int32) := by decide
theorem cc_b_m15 : (Int8.ofInt (-15 : Int)).toInt32 = (-15 : Int32) := by decide
theorem cc_b_m2 : (Int8.ofInt (-2 : Int)).toInt32 = (-2 : Int32) := by decide
theorem cc_b_m3 : (Int8.ofInt (-3 : Int)).toInt32 = (-3 : Int32) := by decide
theorem cc_b_m5 : (Int8.ofInt (-5 : Int)).toInt32 = (-5 : Int32) := by decide
theorem cc_b_m6 : (Int8.ofInt (-6 : Int)).toInt32 = (-6 : Int32) := by decide
theorem cc_i_0 : Int32.ofInt (0 : Int) = (0 : Int32) := by decide
theorem cc_i_1 : Int32.ofInt (1 : Int) = (1 : Int32) := by decide
theorem cc_i_2 : Int32.ofInt (2 : Int) = (2 : Int32) := by decide
theorem cc_i_3 : Int32.ofInt (3 : Int) = (3 : Int32) := by decide
theorem cc_i_4 : Int32.ofInt (4 : Int) = (4 : Int32) := by decide
theorem cc_i_5 : Int32.ofInt (5 : Int) = (5 : Int32) := by decide
theorem cc_i_m1 : Int32.ofInt (-1 : Int) = (-1 : Int32) := by decide
theorem cc_l_0 : Int64.ofNat ((0 : Fin 2) : Nat) = (0 : Int64) := by decide
theorem cc_l_1 : Int64.ofNat ((1 : Fin 2) : Nat) = (1 : Int64) := by decide
theorem cc_s_1000 : (Int16.ofInt (1000 : Int)).toInt32 = (1000 : Int32) := by decide
theorem cc_s_10000 : (Int16.ofInt (10000 : Int)).toInt32 = (10000 : Int32) := by decide
theorem cc_s_200 : (Int16.ofInt (200 : Int)).toInt32 = (200 : Int32) := by decide
theorem cc_s_2000 : (Int16.ofInt (2000 : Int)).toInt32 = (2000 : Int32) := by decide
theorem cc_s_2600 : (Int16.ofInt (2600 : Int)).toInt32 = (2600 : Int32) := by decide
theorem cc_s_300 : (Int16.ofInt (300 : Int)).toInt32 = (300 : Int32) := by decide
theorem cc_s_384 : (Int16.ofInt (384 : Int)).toInt32 = (384 : Int32) := by decide
theorem cc_s_m1000 : (Int16.ofInt (-1000 : Int)).toInt32 = (-1000 : Int32) := by decide
theorem pf_0 (k : Nat) (hk : k < 25) : pj_Fd 0 k (TX1 k) := ⟨RX1, TX1, 25, tyX1, rfl, in_X1, tyX1_ok, nmX1, hk, rfl⟩
theorem pf_1 (k : Nat) (hk : k < 19) : pj_Fd 1 k (TX2 k) := ⟨RX2, TX2, 19, tyX2, rfl, in_X2, tyX2_ok, nmX2, hk, rfl⟩
theorem pf_2 (k : Nat) (hk : k < 1) : pj_Fd 2 k (TX3 k) := ⟨RX3, TX3, 1, tyX3, rfl, in_X3, tyX3_ok, nmX3, hk, rfl⟩
theorem pf_3 (k : Nat) (hk : k < 52) : pj_Fd 3 k (TX4 k) := ⟨RX4, TX4, 52, tyX4, rfl, in_X4, tyX4_ok, nmX4, hk, rfl⟩
theorem pf_4 (k : Nat) (hk : k < 4) : pj_Fd 4 k (TX5 k) := ⟨RX5, TX5, 4, tyX5, rfl, in_X5, tyX5_ok, nmX5, hk, rfl⟩
theorem pf_5 (k : Nat) (hk : k < 4) : pj_Fd 5 k (TX7 k) := ⟨RX7, TX7, 4, tyX7, rfl, in_X7, tyX7_ok, nmX7, hk, rfl⟩
theorem pf_6 (k : Nat) (hk : k < 4) : pj_Fd 6 k (TX8 k) := ⟨RX8, TX8, 4, tyX8, rfl, in_X8, tyX8_ok, nmX8, hk, rfl⟩
theorem pf_7 (k : Nat) (hk : k < 4) : pj_Fd 7 k (TX9 k) := ⟨RX9, TX9, 4, tyX9, rfl, in_X9, tyX9_ok, nmX9, hk, rfl⟩
theorem pf_8 (k : Nat) (hk : k < 4) : pj_Fd 8 k (TX10 k) := ⟨RX10, TX10, 4, tyX10, rfl, in_X10, tyX10_ok, nmX10, hk, rfl⟩
theorem pf_9 (k : Nat) (hk : k < 4) : pj_Fd 9 k (TX11 k) := ⟨RX11, TX11, 4, tyX11, rfl, in_X11, tyX11_ok, nmX11, hk, rfl⟩
theorem pf_10 (k : Nat) (hk : k < 4) : pj_Fd 10 k (TX12 k) := ⟨RX12, TX12, 4, tyX12, rfl, in_X12, tyX12_ok, nmX12, hk, rfl⟩
theorem pf_11 (k : Nat) (hk : k < 4) : pj_Fd 11 k (TX13 k) := ⟨RX13, TX13, 4, tyX13, rfl, in_X13, tyX13_ok, nmX13, hk, rfl⟩
theorem pf_12 (k : Nat) (hk : k < 4) : pj_Fd 12 k (TX14 k) := ⟨RX14, TX14, 4, tyX14, rfl, in_X14, tyX14_ok, nmX14, hk, rfl⟩
theorem pf_13 (k : Nat) (hk : k < 4) : pj_Fd 13 k (TX15 k) := ⟨RX15, TX15, 4, tyX15, rfl, in_X15, tyX15_ok, nmX15, hk, rfl⟩
theorem pf_14 (k : Nat) (hk : k < 4) : pj_Fd 14 k (TX16 k) := ⟨RX16, TX16, 4, tyX16, rfl, in_X16, tyX16_ok, nmX16, hk, rfl⟩
theorem pf_15 (k : Nat) (hk : k < 4) : pj_Fd 15 k (TX17 k) := ⟨RX17, TX17, 4, tyX17, rfl, in_X17, tyX17_ok, nmX17, hk, rfl⟩
theorem pf_16 (k : Nat) (hk : k < 4) : pj_Fd 16 k (TX18 k) := ⟨RX18, TX18, 4, tyX18, rfl, in_X18, tyX18_ok, nmX18, hk, rfl⟩
theorem pf_17 (k : Nat) (hk : k < 4) : pj_Fd 17 k (TX19 k) := ⟨RX19, TX19, 4, tyX19, rfl, in_X19, tyX19_ok, nmX19, hk, rfl⟩
theorem pf_18 (k : Nat) (hk : k < 5) : pj_Fd 18 k (TX20 k) := ⟨RX20, TX20, 5, tyX20, rfl, in_X20, tyX20_ok, nmX20, hk, rfl⟩
theorem pfA_0 : ∀ c, 5 ≤ c → c ≤ 17 → pj_Fd c 0 (TX7 0) := by
  intro c h1 h2
  match c, h1, h2 with
  | 5, _, _ => exact ⟨RX7, TX7, 4, tyX7, rfl, in_X7, tyX7_ok, nmX7, by decide, rfl⟩
  | 6, _, _ => exact ⟨RX8, TX8, 4, tyX8, rfl, in_X8, tyX8_ok, nmX8, by decide, rfl⟩
  | 7, _, _ => exact ⟨RX9, TX9, 4, tyX9, rfl, in_X9, tyX9_ok, nmX9, by decide, rfl⟩
  | 8, _, _ => exact ⟨RX10, TX10, 4, tyX10, rfl, in_X10, tyX10_ok, nmX10, by decide, rfl⟩
  | 9, _, _ => exact ⟨RX11, TX11, 4, tyX11, rfl, in_X11, tyX11_ok, nmX11, by decide, rfl⟩
  | 10, _, _ => exact ⟨RX12, TX12, 4, tyX12, rfl, in_X12, tyX12_ok, nmX12, by decide, rfl⟩
  | 11, _, _ => exact ⟨RX13, TX13, 4, tyX13, rfl, in_X13, tyX13_ok, nmX13, by decide, rfl⟩
  | 12, _, _ => exact ⟨RX14, TX14, 4, tyX14, rfl, in_X14, tyX14_ok, nmX14, by decide, rfl⟩
  | 13, _, _ => exact ⟨RX15, TX15, 4, tyX15, rfl, in_X15, tyX15_ok, nmX15, by decide, rfl⟩
  | 14, _, _ => exact ⟨RX16, TX16, 4, tyX16, rfl, in_X16, tyX16_ok, nmX16, by decide, rfl⟩
  | 15, _, _ => exact ⟨RX17, TX17, 4, tyX17, rfl, in_X17, tyX17_ok, nmX17, by decide, rfl⟩
  | 16, _, _ => exact ⟨RX18, TX18, 4, tyX18, rfl, in_X18, tyX18_ok, nmX18, by decide, rfl⟩
  | 17, _, _ => exact ⟨RX19, TX19, 4, tyX19, rfl, in_X19, tyX19_ok, nmX19, by decide, rfl⟩
  | c + 18, _, h => omega
theorem pfA_1 : ∀ c, 5 ≤ c → c ≤ 17 → pj_Fd c 1 (TX7 1) := by
  intro c h1 h2
  match c, h1, h2 with
  | 5, _, _ => exact ⟨RX7, TX7, 4, tyX7, rfl, in_X7, tyX7_ok, nmX7, by decide, rfl⟩
  | 6, _, _ => exact ⟨RX8, TX8, 4, tyX8, rfl, in_X8, tyX8_ok, nmX8, by decide, rfl⟩
  | 7, _, _ => exact ⟨RX9, TX9, 4, tyX9, rfl, in_X9, tyX9_ok, nmX9, by decide, rfl⟩
  | 8, _, _ => exact ⟨RX10, TX10, 4, tyX10, rfl, in_X10, tyX10_ok, nmX10, by decide, rfl⟩
  | 9, _, _ => exact ⟨RX11, TX11, 4, tyX11, rfl, in_X11, tyX11_ok, nmX11, by decide, rfl⟩
  | 10, _, _ => exact ⟨RX12, TX12, 4, tyX12, rfl, in_X12, tyX12_ok, nmX12, by decide, rfl⟩
  | 11, _, _ => exact ⟨RX13, TX13, 4, tyX13, rfl, in_X13, tyX13_ok, nmX13, by decide, rfl⟩
  | 12, _, _ => exact ⟨RX14, TX14, 4, tyX14, rfl, in_X14, tyX14_ok, nmX14, by decide, rfl⟩
  | 13, _, _ => exact ⟨RX15, TX15, 4, tyX15, rfl, in_X15, tyX15_ok, nmX15, by decide, rfl⟩
  | 14, _, _ => exact ⟨RX16, TX16, 4, tyX16, rfl, in_X16, tyX16_ok, nmX16, by decide, rfl⟩
  | 15, _, _ => exact ⟨RX17, TX17, 4, tyX17, rfl, in_X17, tyX17_ok, nmX17, by decide, rfl⟩
  | 16, _, _ => exact ⟨RX18, TX18, 4, tyX18, rfl, in_X18, tyX18_ok, nmX18, by decide, rfl⟩
  | 17, _, _ => exact ⟨RX19, TX19, 4, tyX19, rfl, in_X19, tyX19_ok, nmX19, by decide, rfl⟩
  | c + 18, _, h => omega
theorem pfA_2 : ∀ c, 5 ≤ c → c ≤ 17 → pj_Fd c 2 (TX7 2) := by
  intro c h1 h2
  match c, h1, h2 with
  | 5, _, _ => exact ⟨RX7, TX7, 4, tyX7, rfl, in_X7, tyX7_ok, nmX7, by decide, rfl⟩
  | 6, _, _ => exact ⟨RX8, TX8, 4, tyX8, rfl, in_X8, tyX8_ok, nmX8, by decide, rfl⟩
  | 7, _, _ => exact ⟨RX9, TX9, 4, tyX9, rfl, in_X9, tyX9_ok, nmX9, by decide, rfl⟩
  | 8, _, _ => exact ⟨RX10, TX10, 4, tyX10, rfl, in_X10, tyX10_ok, nmX10, by decide, rfl⟩
  | 9, _, _ => exact ⟨RX11, TX11, 4, tyX11, rfl, in_X11, tyX11_ok, nmX11, by decide, rfl⟩
  | 10, _, _ => exact ⟨RX12, TX12, 4, tyX12, rfl, in_X12, tyX12_ok, nmX12, by decide, rfl⟩
  | 11, _, _ => exact ⟨RX13, TX13, 4, tyX13, rfl, in_X13, tyX13_ok, nmX13, by decide, rfl⟩
  | 12, _, _ => exact ⟨RX14, TX14, 4, tyX14, rfl, in_X14, tyX14_ok, nmX14, by decide, rfl⟩
  | 13, _, _ => exact ⟨RX15, TX15, 4, tyX15, rfl, in_X15, tyX15_ok, nmX15, by decide, rfl⟩
  | 14, _, _ => exact ⟨RX16, TX16, 4, tyX16, rfl, in_X16, tyX16_ok, nmX16, by decide, rfl⟩
  | 15, _, _ => exact ⟨RX17, TX17, 4, tyX17, rfl, in_X17, tyX17_ok, nmX17, by decide, rfl⟩
  | 16, _, _ => exact ⟨RX18, TX18, 4, tyX18, rfl, in_X18, tyX18_ok, nmX18, by decide, rfl⟩
  | 17, _, _ => exact ⟨RX19, TX19, 4, tyX19, rfl, in_X19, tyX19_ok, nmX19, by decide, rfl⟩
  | c + 18, _, h => omega
theorem pfA_3 : ∀ c, 5 ≤ c → c ≤ 17 → pj_Fd c 3 (TX7 3) := by
  intro c h1 h2
  match c, h1, h2 with
  | 5, _, _ => exact ⟨RX7, TX7, 4, tyX7, rfl, in_X7, tyX7_ok, nmX7, by decide, rfl⟩
  | 6, _, _ => exact ⟨RX8, TX8, 4, tyX8, rfl, in_X8, tyX8_ok, nmX8, by decide, rfl⟩
  | 7, _, _ => exact ⟨RX9, TX9, 4, tyX9, rfl, in_X9, tyX9_ok, nmX9, by decide, rfl⟩
  | 8, _, _ => exact ⟨RX10, TX10, 4, tyX10, rfl, in_X10, tyX10_ok, nmX10, by decide, rfl⟩
  | 9, _, _ => exact ⟨RX11, TX11, 4, tyX11, rfl, in_X11, tyX11_ok, nmX11, by decide, rfl⟩
  | 10, _, _ => exact ⟨RX12, TX12, 4, tyX12, rfl, in_X12, tyX12_ok, nmX12, by decide, rfl⟩
  | 11, _, _ => exact ⟨RX13, TX13, 4, tyX13, rfl, in_X13, tyX13_ok, nmX13, by decide, rfl⟩
  | 12, _, _ => exact ⟨RX14, TX14, 4, tyX14, rfl, in_X14, tyX14_ok, nmX14, by decide, rfl⟩
  | 13, _, _ => exact ⟨RX15, TX15, 4, tyX15, rfl, in_X15, tyX15_ok, nmX15, by decide, rfl⟩
  | 14, _, _ => exact ⟨RX16, TX16, 4, tyX16, rfl, in_X16, tyX16_ok, nmX16, by decide, rfl⟩
  | 15, _, _ => exact ⟨RX17, TX17, 4, tyX17, rfl, in_X17, tyX17_ok, nmX17, by decide, rfl⟩
  | 16, _, _ => exact ⟨RX18, TX18, 4, tyX18, rfl, in_X18, tyX18_ok, nmX18, by decide, rfl⟩
  | 17, _, _ => exact ⟨RX19, TX19, 4, tyX19, rfl, in_X19, tyX19_ok, nmX19, by decide, rfl⟩
  | c + 18, _, h => omega
theorem pj_F1 {ci k : Nat} {q : String × String × String × Bool} (h : pj_Fd ci k q) : ∀ c, ci ≤ c → c ≤ ci → pj_Fd c k q := by
  intro c h1 h2
  have : c = ci := by omega
  subst this
  exact h
theorem pj_dv_0 {G : pj_G} : ∀ j, j < 25 → defaultValue (tyX1 j) = vp_V (List.map (pj_v G) [.null, .null, .null, .int 0, .null, .null, .null, .int 0, .null, .int 0, .null, .null, .null, .null, .null, .int 0, .null, .null, .null, .null, .null, .null, .null, .null, .int 0]) j := by
  intro j hj
  match j, hj with
  | 0, _ => rfl
  | 1, _ => rfl
  | 2, _ => rfl
  | 3, _ => rfl
  | 4, _ => rfl
  | 5, _ => rfl
  | 6, _ => rfl
  | 7, _ => rfl
  | 8, _ => rfl
  | 9, _ => rfl
  | 10, _ => rfl
  | 11, _ => rfl
  | 12, _ => rfl
  | 13, _ => rfl
  | 14, _ => rfl
  | 15, _ => rfl
  | 16, _ => rfl
  | 17, _ => rfl
  | 18, _ => rfl
  | 19, _ => rfl
  | 20, _ => rfl
  | 21, _ => rfl
  | 22, _ => rfl
  | 23, _ => rfl
  | 24, _ => rfl
  | j + 25, h => omega
theorem pj_dv_1 {G : pj_G} : ∀ j, j < 19 → defaultValue (tyX2 j) = vp_V (List.map (pj_v G) [.null, .null, .null, .null, .int 0, .int 0, .long 0, .null, .null, .int 0, .long 0, .long 0, .null, .int 0, .null, .null, .null, .double 0, .null]) j := by
  intro j hj
  match j, hj with
  | 0, _ => rfl
  | 1, _ => rfl
  | 2, _ => rfl
  | 3, _ => rfl
  | 4, _ => rfl
  | 5, _ => rfl
  | 6, _ => rfl
  | 7, _ => rfl
  | 8, _ => rfl
  | 9, _ => rfl
  | 10, _ => rfl
  | 11, _ => rfl
  | 12, _ => rfl
  | 13, _ => rfl
  | 14, _ => rfl
  | 15, _ => rfl
  | 16, _ => rfl
  | 17, _ => rfl
  | 18, _ => rfl
  | j + 19, h => omega
theorem pj_dv_2 {G : pj_G} : ∀ j, j < 1 → defaultValue (tyX3 j) = vp_V (List.map (pj_v G) [.null]) j := by
  intro j hj
  match j, hj with
  | 0, _ => rfl
  | j + 1, h => omega
theorem pj_dv_3 {G : pj_G} : ∀ j, j < 52 → defaultValue (tyX4 j) = vp_V (List.map (pj_v G) [.int 0, .null, .null, .int 0, .null, .null, .null, .int 0, .null, .null, .null, .null, .null, .int 0, .int 0, .int 0, .int 0, .int 0, .null, .null, .null, .null, .null, .null, .null, .null, .null, .int 0, .int 0, .long 0, .int 0, .int 0, .int 0, .null, .null, .null, .null, .null, .null, .null, .null, .null, .null, .null, .null, .double 0, .null, .null, .null, .null, .null, .null]) j := by
  intro j hj
  match j, hj with
  | 0, _ => rfl
  | 1, _ => rfl
  | 2, _ => rfl
  | 3, _ => rfl
  | 4, _ => rfl
  | 5, _ => rfl
  | 6, _ => rfl
  | 7, _ => rfl
  | 8, _ => rfl
  | 9, _ => rfl
  | 10, _ => rfl
  | 11, _ => rfl
  | 12, _ => rfl
  | 13, _ => rfl
  | 14, _ => rfl
  | 15, _ => rfl
  | 16, _ => rfl
  | 17, _ => rfl
  | 18, _ => rfl
  | 19, _ => rfl
  | 20, _ => rfl
  | 21, _ => rfl
  | 22, _ => rfl
  | 23, _ => rfl
  | 24, _ => rfl
  | 25, _ => rfl
  | 26, _ => rfl
  | 27, _ => rfl
  | 28, _ => rfl
  | 29, _ => rfl
  | 30, _ => rfl
  | 31, _ => rfl
  | 32, _ => rfl
  | 33, _ => rfl
  | 34, _ => rfl
  | 35, _ => rfl
  | 36, _ => rfl
  | 37, _ => rfl
  | 38, _ => rfl
  | 39, _ => rfl
  | 40, _ => rfl
  | 41, _ => rfl
  | 42, _ => rfl
  | 43, _ => rfl
  | 44, _ => rfl
  | 45, _ => rfl
  | 46, _ => rfl
  | 47, _ => rfl
  | 48, _ => rfl
  | 49, _ => rfl
  | 50, _ => rfl
  | 51, _ => rfl
  | j + 52, h => omega
theorem pj_dv_4 {G : pj_G} : ∀ j, j < 4 → defaultValue (tyX5 j) = vp_V (List.map (pj_v G) [.null, .int 0, .long 0, .long 0]) j := by
  intro j hj
  match j, hj with
  | 0, _ => rfl
  | 1, _ => rfl
  | 2, _ => rfl
  | 3, _ => rfl
  | j + 4, h => omega
theorem pj_dv_5 {G : pj_G} : ∀ j, j < 4 → defaultValue (tyX7 j) = vp_V (List.map (pj_v G) [.int 0, .int 0, .int 0, .int 0]) j := by
  intro j hj
  match j, hj with
  | 0, _ => rfl
  | 1, _ => rfl
  | 2, _ => rfl
  | 3, _ => rfl
  | j + 4, h => omega
theorem pj_dv_6 {G : pj_G} : ∀ j, j < 4 → defaultValue (tyX8 j) = vp_V (List.map (pj_v G) [.int 0, .int 0, .int 0, .int 0]) j := by
  intro j hj
  match j, hj with
  | 0, _ => rfl
  | 1, _ => rfl
  | 2, _ => rfl
  | 3, _ => rfl
  | j + 4, h => omega
theorem pj_dv_7 {G : pj_G} : ∀ j, j < 4 → defaultValue (tyX9 j) = vp_V (List.map (pj_v G) [.int 0, .int 0, .int 0, .int 0]) j := by
  intro j hj
  match j, hj with
  | 0, _ => rfl
  | 1, _ => rfl
  | 2, _ => rfl
  | 3, _ => rfl
  | j + 4, h => omega
theorem pj_dv_8 {G : pj_G} : ∀ j, j < 4 → defaultValue (tyX10 j) = vp_V (List.map (pj_v G) [.int 0, .int 0, .int 0, .int 0]) j := by
  intro j hj
  match j, hj with
  | 0, _ => rfl
  | 1, _ => rfl
  | 2, _ => rfl
  | 3, _ => rfl
  | j + 4, h => omega
theorem pj_dv_9 {G : pj_G} : ∀ j, j < 4 → defaultValue (tyX11 j) = vp_V (List.map (pj_v G) [.int 0, .int 0, .int 0, .int 0]) j := by
  intro j hj
  match j, hj with
  | 0, _ => rfl
  | 1, _ => rfl
  | 2, _ => rfl
  | 3, _ => rfl
  | j + 4, h => omega
theorem pj_dv_10 {G : pj_G} : ∀ j, j < 4 → defaultValue (tyX12 j) = vp_V (List.map (pj_v G) [.int 0, .int 0, .int 0, .int 0]) j := by
  intro j hj
  match j, hj with
  | 0, _ => rfl
  | 1, _ => rfl
  | 2, _ => rfl
  | 3, _ => rfl
  | j + 4, h => omega
theorem pj_dv_11 {G : pj_G} : ∀ j, j < 4 → defaultValue (tyX13 j) = vp_V (List.map (pj_v G) [.int 0, .int 0, .int 0, .int 0]) j := by
  intro j hj
  match j, hj with
  | 0, _ => rfl
  | 1, _ => rfl
  | 2, _ => rfl
  | 3, _ => rfl
  | j + 4, h => omega
theorem pj_dv_12 {G : pj_G} : ∀ j, j < 4 → defaultValue (tyX14 j) = vp_V (List.map (pj_v G) [.int 0, .int 0, .int 0, .int 0]) j := by
  intro j hj
  match j, hj with
  | 0, _ => rfl
  | 1, _ => rfl
  | 2, _ => rfl
  | 3, _ => rfl
  | j + 4, h => omega
theorem pj_dv_13 {G : pj_G} : ∀ j, j < 4 → defaultValue (tyX15 j) = vp_V (List.map (pj_v G) [.int 0, .int 0, .int 0, .int 0]) j := by
  intro j hj
  match j, hj with
  | 0, _ => rfl
  | 1, _ => rfl
  | 2, _ => rfl
  | 3, _ => rfl
  | j + 4, h => omega
theorem pj_dv_14 {G : pj_G} : ∀ j, j < 4 → defaultValue (tyX16 j) = vp_V (List.map (pj_v G) [.int 0, .int 0, .int 0, .int 0]) j := by
  intro j hj
  match j, hj with
  | 0, _ => rfl
  | 1, _ => rfl
  | 2, _ => rfl
  | 3, _ => rfl
  | j + 4, h => omega
theorem pj_dv_15 {G : pj_G} : ∀ j, j < 4 → defaultValue (tyX17 j) = vp_V (List.map (pj_v G) [.int 0, .int 0, .int 0, .int 0]) j := by
  intro j hj
  match j, hj with
  | 0, _ => rfl
  | 1, _ => rfl
  | 2, _ => rfl
  | 3, _ => rfl
  | j + 4, h => omega
theorem pj_dv_16 {G : pj_G} : ∀ j, j < 4 → defaultValue (tyX18 j) = vp_V (List.map (pj_v G) [.int 0, .int 0, .int 0, .int 0]) j := by
  intro j hj
  match j, hj with
  | 0, _ => rfl
  | 1, _ => rfl
  | 2, _ => rfl
  | 3, _ => rfl
  | j + 4, h => omega
theorem pj_dv_17 {G : pj_G} : ∀ j, j < 4 → defaultValue (tyX19 j) = vp_V (List.map (pj_v G) [.int 0, .int 0, .int 0, .int 0]) j := by
  intro j hj
  match j, hj with
  | 0, _ => rfl
  | 1, _ => rfl
  | 2, _ => rfl
  | 3, _ => rfl
  | j + 4, h => omega
theorem pj_dv_18 {G : pj_G} : ∀ j, j < 5 → defaultValue (tyX20 j) = vp_V (List.map (pj_v G) [.null, .null, .null, .int 0, .int 0]) j := by
  intro j hj
  match j, hj with
  | 0, _ => rfl
  | 1, _ => rfl
  | 2, _ => rfl
  | 3, _ => rfl
  | 4, _ => rfl
  | j + 5, h => omega
def mJ4_floor : pj_M := (yJ4_floor, cJ4_floor, 2, (Option.some Jvm.ClassFile.FieldType.double))
def mJ4_getExponent : pj_M := (yJ4_getExponent, cJ4_getExponent, 2, (Option.some Jvm.ClassFile.FieldType.int))
def mJ4_ceil : pj_M := (yJ4_ceil, cJ4_ceil, 2, (Option.some Jvm.ClassFile.FieldType.double))
def mJ4_rint : pj_M := (yJ4_rint, cJ4_rint, 2, (Option.some Jvm.ClassFile.FieldType.double))
def mJ4_copySign : pj_M := (yJ4_copySign, cJ4_copySign, 4, (Option.some Jvm.ClassFile.FieldType.double))
def mJ4_abs : pj_M := (yJ4_abs, cJ4_abs, 2, (Option.some Jvm.ClassFile.FieldType.double))
def mJ5_floor : pj_M := (yJ5_floor, cJ5_floor, 2, (Option.some Jvm.ClassFile.FieldType.double))
def mJ5_floorOrCeil : pj_M := (yJ5_floorOrCeil, cJ5_floorOrCeil, 15, (Option.some Jvm.ClassFile.FieldType.double))
def mJ5_ceil : pj_M := (yJ5_ceil, cJ5_ceil, 2, (Option.some Jvm.ClassFile.FieldType.double))
def mJ5_rint : pj_M := (yJ5_rint, cJ5_rint, 6, (Option.some Jvm.ClassFile.FieldType.double))
def mX0_account : pj_M := (yX0_account, cX0_account, 4, (Option.some Jvm.ClassFile.FieldType.int))
def mX0_slot : pj_M := (yX0_slot, cX0_slot, 5, (Option.some Jvm.ClassFile.FieldType.int))
def mX0_part : pj_M := (yX0_part, cX0_part, 4, (Option.some Jvm.ClassFile.FieldType.int))
def mX0_got : pj_M := (yX0_got, cX0_got, 4, (Option.some Jvm.ClassFile.FieldType.int))
def mX0_carried : pj_M := (yX0_carried, cX0_carried, 5, (Option.some Jvm.ClassFile.FieldType.int))
def mX0_drift : pj_M := (yX0_drift, cX0_drift, 8, (Option.some Jvm.ClassFile.FieldType.int))
def mX0_rounded : pj_M := (yX0_rounded, cX0_rounded, 8, (Option.some Jvm.ClassFile.FieldType.int))
def mX0_at : pj_M := (yX0_at, cX0_at, 5, (Option.some Jvm.ClassFile.FieldType.int))
def mX1_init : pj_M := (yX1_init, cX1_init, 2, (Option.none : Option Jvm.ClassFile.FieldType))
def mX1_begin : pj_M := (yX1_begin, cX1_begin, 2, (Option.some Jvm.ClassFile.FieldType.int))
def mX1_rate : pj_M := (yX1_rate, cX1_rate, 4, (Option.some Jvm.ClassFile.FieldType.int))
def mX1_line : pj_M := (yX1_line, cX1_line, 2, (Option.some Jvm.ClassFile.FieldType.int))
def mX1_bare : pj_M := (yX1_bare, cX1_bare, 2, (Option.some Jvm.ClassFile.FieldType.int))
def mX1_weight : pj_M := (yX1_weight, cX1_weight, 3, (Option.some Jvm.ClassFile.FieldType.int))
def mX1_program : pj_M := (yX1_program, cX1_program, 1, (Option.some Jvm.ClassFile.FieldType.int))
def mX1_act : pj_M := (yX1_act, cX1_act, 7, (Option.some Jvm.ClassFile.FieldType.int))
def mX1_isProgram : pj_M := (yX1_isProgram, cX1_isProgram, 2, (Option.some Jvm.ClassFile.FieldType.boolean))
def mX1_fits : pj_M := (yX1_fits, cX1_fits, 3, (Option.some Jvm.ClassFile.FieldType.boolean))
def mX1_within : pj_M := (yX1_within, cX1_within, 3, (Option.some Jvm.ClassFile.FieldType.boolean))
def mX1_made : pj_M := (yX1_made, cX1_made, 4, (Option.some (Jvm.ClassFile.FieldType.object "PennyJudge$Act")))
def mX1_set : pj_M := (yX1_set, cX1_set, 6, (Option.some Jvm.ClassFile.FieldType.int))
def mX1_told : pj_M := (yX1_told, cX1_told, 5, (Option.some Jvm.ClassFile.FieldType.int))
def mX1_run : pj_M := (yX1_run, cX1_run, 5, (Option.some Jvm.ClassFile.FieldType.int))
def mX1_common : pj_M := (yX1_common, cX1_common, 10, (Option.some Jvm.ClassFile.FieldType.long))
def mX1_floorOf : pj_M := (yX1_floorOf, cX1_floorOf, 6, (Option.some Jvm.ClassFile.FieldType.long))
def mX1_whole : pj_M := (yX1_whole, cX1_whole, 9, (Option.some Jvm.ClassFile.FieldType.long))
def mX1_share : pj_M := (yX1_share, cX1_share, 15, (Option.none : Option Jvm.ClassFile.FieldType))
def mX1_wholeWeight : pj_M := (yX1_wholeWeight, cX1_wholeWeight, 4, (Option.some Jvm.ClassFile.FieldType.int))
def mX1_weightOf : pj_M := (yX1_weightOf, cX1_weightOf, 4, (Option.some Jvm.ClassFile.FieldType.int))
def mX1_years : pj_M := (yX1_years, cX1_years, 4, (Option.some Jvm.ClassFile.FieldType.int))
def mX1_failed : pj_M := (yX1_failed, cX1_failed, 1, (Option.some Jvm.ClassFile.FieldType.int))
def mX1_least : pj_M := (yX1_least, cX1_least, 6, (Option.some Jvm.ClassFile.FieldType.int))
def mX1_span : pj_M := (yX1_span, cX1_span, 3, (Option.some Jvm.ClassFile.FieldType.boolean))
def mX1_firstBreak : pj_M := (yX1_firstBreak, cX1_firstBreak, 7, (Option.some Jvm.ClassFile.FieldType.int))
def mX1_breaksLaw : pj_M := (yX1_breaksLaw, cX1_breaksLaw, 10, (Option.some Jvm.ClassFile.FieldType.boolean))
def mX1_runs : pj_M := (yX1_runs, cX1_runs, 4, (Option.some Jvm.ClassFile.FieldType.boolean))
def mX1_alike : pj_M := (yX1_alike, cX1_alike, 3, (Option.some Jvm.ClassFile.FieldType.boolean))
def mX1_farShare : pj_M := (yX1_farShare, cX1_farShare, 8, (Option.some Jvm.ClassFile.FieldType.boolean))
def mX1_loose : pj_M := (yX1_loose, cX1_loose, 8, (Option.some Jvm.ClassFile.FieldType.double))
def mX1_kept : pj_M := (yX1_kept, cX1_kept, 2, (Option.some Jvm.ClassFile.FieldType.double))
def mX1_order : pj_M := (yX1_order, cX1_order, 7, (Option.some Jvm.ClassFile.FieldType.int))
def mX1_turn : pj_M := (yX1_turn, cX1_turn, 6, (Option.some Jvm.ClassFile.FieldType.boolean))
def mX1_swap : pj_M := (yX1_swap, cX1_swap, 4, (Option.none : Option Jvm.ClassFile.FieldType))
def mX1_mend : pj_M := (yX1_mend, cX1_mend, 11, (Option.some Jvm.ClassFile.FieldType.int))
def mX1_same : pj_M := (yX1_same, cX1_same, 8, (Option.some Jvm.ClassFile.FieldType.int))
def mX1_tape : pj_M := (yX1_tape, cX1_tape, 5, (Option.some Jvm.ClassFile.FieldType.int))
def mX1_isTape : pj_M := (yX1_isTape, cX1_isTape, 2, (Option.some Jvm.ClassFile.FieldType.boolean))
def mX1_snag : pj_M := (yX1_snag, cX1_snag, 2, (Option.some Jvm.ClassFile.FieldType.int))
def mX1_image : pj_M := (yX1_image, cX1_image, 4, (Option.some Jvm.ClassFile.FieldType.int))
def mX1_back : pj_M := (yX1_back, cX1_back, 4, (Option.some Jvm.ClassFile.FieldType.int))
def mX1_toss : pj_M := (yX1_toss, cX1_toss, 4, (Option.some Jvm.ClassFile.FieldType.int))
def mX1_load : pj_M := (yX1_load, cX1_load, 10, (Option.some Jvm.ClassFile.FieldType.int))
def mX1_lengthOf : pj_M := (yX1_lengthOf, cX1_lengthOf, 1, (Option.some Jvm.ClassFile.FieldType.int))
def mX1_wide : pj_M := (yX1_wide, cX1_wide, 2, (Option.some Jvm.ClassFile.FieldType.long))
def mX1_clear : pj_M := (yX1_clear, cX1_clear, 3, (Option.some Jvm.ClassFile.FieldType.int))
def mX1_put : pj_M := (yX1_put, cX1_put, 7, (Option.some Jvm.ClassFile.FieldType.int))
def mX1_copy : pj_M := (yX1_copy, cX1_copy, 9, (Option.some Jvm.ClassFile.FieldType.int))
def mX1_mate : pj_M := (yX1_mate, cX1_mate, 3, (Option.some Jvm.ClassFile.FieldType.int))
def mX1_count : pj_M := (yX1_count, cX1_count, 2, (Option.some Jvm.ClassFile.FieldType.int))
def mX1_account : pj_M := (yX1_account, cX1_account, 2, (Option.some Jvm.ClassFile.FieldType.long))
def mX1_slot : pj_M := (yX1_slot, cX1_slot, 3, (Option.some Jvm.ClassFile.FieldType.long))
def mX1_part : pj_M := (yX1_part, cX1_part, 2, (Option.some Jvm.ClassFile.FieldType.long))
def mX1_got : pj_M := (yX1_got, cX1_got, 2, (Option.some Jvm.ClassFile.FieldType.long))
def mX1_carried : pj_M := (yX1_carried, cX1_carried, 3, (Option.some Jvm.ClassFile.FieldType.long))
def mX1_drift : pj_M := (yX1_drift, cX1_drift, 13, (Option.some Jvm.ClassFile.FieldType.int))
def mX1_spread : pj_M := (yX1_spread, cX1_spread, 15, (Option.none : Option Jvm.ClassFile.FieldType))
def mX1_up : pj_M := (yX1_up, cX1_up, 4, (Option.some Jvm.ClassFile.FieldType.int))
def mX1_rounded : pj_M := (yX1_rounded, cX1_rounded, 6, (Option.some Jvm.ClassFile.FieldType.long))
def mX1_at : pj_M := (yX1_at, cX1_at, 6, (Option.some Jvm.ClassFile.FieldType.long))
def mX1_element : pj_M := (yX1_element, cX1_element, 2, (Option.some Jvm.ClassFile.FieldType.long))
def mX10_init : pj_M := (yX10_init, cX10_init, 5, (Option.none : Option Jvm.ClassFile.FieldType))
def mX10_does : pj_M := (yX10_does, cX10_does, 4, (Option.some Jvm.ClassFile.FieldType.int))
def mX10_loosely : pj_M := (yX10_loosely, cX10_loosely, 2, (Option.none : Option Jvm.ClassFile.FieldType))
def mX11_init : pj_M := (yX11_init, cX11_init, 5, (Option.none : Option Jvm.ClassFile.FieldType))
def mX11_does : pj_M := (yX11_does, cX11_does, 2, (Option.some Jvm.ClassFile.FieldType.int))
def mX11_loosely : pj_M := (yX11_loosely, cX11_loosely, 2, (Option.none : Option Jvm.ClassFile.FieldType))
def mX11_choice : pj_M := (yX11_choice, cX11_choice, 1, (Option.some Jvm.ClassFile.FieldType.int))
def mX11_choose : pj_M := (yX11_choose, cX11_choose, 2, (Option.none : Option Jvm.ClassFile.FieldType))
def mX12_init : pj_M := (yX12_init, cX12_init, 5, (Option.none : Option Jvm.ClassFile.FieldType))
def mX12_does : pj_M := (yX12_does, cX12_does, 6, (Option.some Jvm.ClassFile.FieldType.int))
def mX12_loosely : pj_M := (yX12_loosely, cX12_loosely, 2, (Option.none : Option Jvm.ClassFile.FieldType))
def mX13_init : pj_M := (yX13_init, cX13_init, 5, (Option.none : Option Jvm.ClassFile.FieldType))
def mX13_does : pj_M := (yX13_does, cX13_does, 2, (Option.some Jvm.ClassFile.FieldType.int))
def mX13_loosely : pj_M := (yX13_loosely, cX13_loosely, 5, (Option.none : Option Jvm.ClassFile.FieldType))
def mX13_choice : pj_M := (yX13_choice, cX13_choice, 1, (Option.some Jvm.ClassFile.FieldType.int))
def mX13_choices : pj_M := (yX13_choices, cX13_choices, 1, (Option.some Jvm.ClassFile.FieldType.int))
def mX13_choose : pj_M := (yX13_choose, cX13_choose, 2, (Option.none : Option Jvm.ClassFile.FieldType))
def mX14_init : pj_M := (yX14_init, cX14_init, 5, (Option.none : Option Jvm.ClassFile.FieldType))
def mX14_does : pj_M := (yX14_does, cX14_does, 3, (Option.some Jvm.ClassFile.FieldType.int))
def mX14_loosely : pj_M := (yX14_loosely, cX14_loosely, 2, (Option.none : Option Jvm.ClassFile.FieldType))
def mX15_init : pj_M := (yX15_init, cX15_init, 5, (Option.none : Option Jvm.ClassFile.FieldType))
def mX15_does : pj_M := (yX15_does, cX15_does, 5, (Option.some Jvm.ClassFile.FieldType.int))
def mX15_loosely : pj_M := (yX15_loosely, cX15_loosely, 4, (Option.none : Option Jvm.ClassFile.FieldType))
def mX16_init : pj_M := (yX16_init, cX16_init, 5, (Option.none : Option Jvm.ClassFile.FieldType))
def mX16_does : pj_M := (yX16_does, cX16_does, 4, (Option.some Jvm.ClassFile.FieldType.int))
def mX16_loosely : pj_M := (yX16_loosely, cX16_loosely, 2, (Option.none : Option Jvm.ClassFile.FieldType))
def mX17_init : pj_M := (yX17_init, cX17_init, 5, (Option.none : Option Jvm.ClassFile.FieldType))
def mX17_does : pj_M := (yX17_does, cX17_does, 2, (Option.some Jvm.ClassFile.FieldType.int))
def mX17_loosely : pj_M := (yX17_loosely, cX17_loosely, 4, (Option.none : Option Jvm.ClassFile.FieldType))
def mX18_init : pj_M := (yX18_init, cX18_init, 5, (Option.none : Option Jvm.ClassFile.FieldType))
def mX18_does : pj_M := (yX18_does, cX18_does, 3, (Option.some Jvm.ClassFile.FieldType.int))
def mX18_loosely : pj_M := (yX18_loosely, cX18_loosely, 2, (Option.none : Option Jvm.ClassFile.FieldType))
def mX18_choice : pj_M := (yX18_choice, cX18_choice, 1, (Option.some Jvm.ClassFile.FieldType.int))
def mX18_choose : pj_M := (yX18_choose, cX18_choose, 2, (Option.none : Option Jvm.ClassFile.FieldType))
def mX19_init : pj_M := (yX19_init, cX19_init, 5, (Option.none : Option Jvm.ClassFile.FieldType))
def mX19_does : pj_M := (yX19_does, cX19_does, 6, (Option.some Jvm.ClassFile.FieldType.int))
def mX19_loosely : pj_M := (yX19_loosely, cX19_loosely, 5, (Option.none : Option Jvm.ClassFile.FieldType))
def mX2_init : pj_M := (yX2_init, cX2_init, 1, (Option.none : Option Jvm.ClassFile.FieldType))
def mX2_begin : pj_M := (yX2_begin, cX2_begin, 2, (Option.none : Option Jvm.ClassFile.FieldType))
def mX2_bare : pj_M := (yX2_bare, cX2_bare, 2, (Option.none : Option Jvm.ClassFile.FieldType))
def mX2_bill : pj_M := (yX2_bill, cX2_bill, 4, (Option.none : Option Jvm.ClassFile.FieldType))
def mX2_put : pj_M := (yX2_put, cX2_put, 12, (Option.some Jvm.ClassFile.FieldType.int))
def mX2_isWhole : pj_M := (yX2_isWhole, cX2_isWhole, 2, (Option.some Jvm.ClassFile.FieldType.boolean))
def mX2_p : pj_M := (yX2_p, cX2_p, 2, (Option.some Jvm.ClassFile.FieldType.int))
def mX2_q : pj_M := (yX2_q, cX2_q, 2, (Option.some Jvm.ClassFile.FieldType.int))
def mX20_init : pj_M := (yX20_init, cX20_init, 1, (Option.none : Option Jvm.ClassFile.FieldType))
def mX20_failure : pj_M := (yX20_failure, cX20_failure, 1, (Option.some (Jvm.ClassFile.FieldType.object "PennyJudge$Leak")))
def mX21_init : pj_M := (yX21_init, cX21_init, 2, (Option.none : Option Jvm.ClassFile.FieldType))
def mX3_init : pj_M := (yX3_init, cX3_init, 1, (Option.none : Option Jvm.ClassFile.FieldType))
def mX3_sort : pj_M := (yX3_sort, cX3_sort, 1, (Option.some Jvm.ClassFile.FieldType.int))
def mX4_init : pj_M := (yX4_init, cX4_init, 1, (Option.none : Option Jvm.ClassFile.FieldType))
def mX4_resets : pj_M := (yX4_resets, cX4_resets, 2, (Option.none : Option Jvm.ClassFile.FieldType))
def mX4_clears : pj_M := (yX4_clears, cX4_clears, 2, (Option.none : Option Jvm.ClassFile.FieldType))
def mX4_thrown : pj_M := (yX4_thrown, cX4_thrown, 1, (Option.some Jvm.ClassFile.FieldType.int))
def mX4_begin : pj_M := (yX4_begin, cX4_begin, 1, (Option.some Jvm.ClassFile.FieldType.int))
def mX4_rate : pj_M := (yX4_rate, cX4_rate, 4, (Option.some Jvm.ClassFile.FieldType.int))
def mX4_in : pj_M := (yX4_in, cX4_in, 3, (Option.some Jvm.ClassFile.FieldType.boolean))
def mX4_line : pj_M := (yX4_line, cX4_line, 2, (Option.some Jvm.ClassFile.FieldType.int))
def mX4_isLine : pj_M := (yX4_isLine, cX4_isLine, 2, (Option.some Jvm.ClassFile.FieldType.boolean))
def mX4_bare : pj_M := (yX4_bare, cX4_bare, 2, (Option.some Jvm.ClassFile.FieldType.int))
def mX4_weight : pj_M := (yX4_weight, cX4_weight, 3, (Option.some Jvm.ClassFile.FieldType.int))
def mX4_program : pj_M := (yX4_program, cX4_program, 1, (Option.some Jvm.ClassFile.FieldType.int))
def mX4_act : pj_M := (yX4_act, cX4_act, 7, (Option.some Jvm.ClassFile.FieldType.int))
def mX4_isProgram : pj_M := (yX4_isProgram, cX4_isProgram, 2, (Option.some Jvm.ClassFile.FieldType.boolean))
def mX4_fits : pj_M := (yX4_fits, cX4_fits, 4, (Option.some Jvm.ClassFile.FieldType.boolean))
def mX4_set : pj_M := (yX4_set, cX4_set, 5, (Option.some Jvm.ClassFile.FieldType.int))
def mX4_isAct : pj_M := (yX4_isAct, cX4_isAct, 3, (Option.some Jvm.ClassFile.FieldType.boolean))
def mX4_told : pj_M := (yX4_told, cX4_told, 5, (Option.some Jvm.ClassFile.FieldType.int))
def mX4_run : pj_M := (yX4_run, cX4_run, 2, (Option.some Jvm.ClassFile.FieldType.int))
def mX4_runsReal : pj_M := (yX4_runsReal, cX4_runsReal, 3, (Option.some Jvm.ClassFile.FieldType.int))
def mX4_runs : pj_M := (yX4_runs, cX4_runs, 9, (Option.some Jvm.ClassFile.FieldType.int))
def mX4_does : pj_M := (yX4_does, cX4_does, 10, (Option.none : Option Jvm.ClassFile.FieldType))
def mX4_plain : pj_M := (yX4_plain, cX4_plain, 4, (Option.none : Option Jvm.ClassFile.FieldType))
def mX4_becomesWhole : pj_M := (yX4_becomesWhole, cX4_becomesWhole, 4, (Option.some Jvm.ClassFile.FieldType.boolean))
def mX4_becomes : pj_M := (yX4_becomes, cX4_becomes, 12, (Option.some Jvm.ClassFile.FieldType.boolean))
def mX4_common : pj_M := (yX4_common, cX4_common, 10, (Option.some Jvm.ClassFile.FieldType.long))
def mX4_taxes : pj_M := (yX4_taxes, cX4_taxes, 12, (Option.none : Option Jvm.ClassFile.FieldType))
def mX4_times : pj_M := (yX4_times, cX4_times, 9, (Option.some Jvm.ClassFile.FieldType.long))
def mX4_floor : pj_M := (yX4_floor, cX4_floor, 6, (Option.some Jvm.ClassFile.FieldType.long))
def mX4_rates : pj_M := (yX4_rates, cX4_rates, 6, (Option.none : Option Jvm.ClassFile.FieldType))
def mX4_adds : pj_M := (yX4_adds, cX4_adds, 9, (Option.none : Option Jvm.ClassFile.FieldType))
def mX4_splits : pj_M := (yX4_splits, cX4_splits, 16, (Option.none : Option Jvm.ClassFile.FieldType))
def mX4_partsOf : pj_M := (yX4_partsOf, cX4_partsOf, 2, (Option.some Jvm.ClassFile.FieldType.int))
def mX4_isEven : pj_M := (yX4_isEven, cX4_isEven, 4, (Option.some Jvm.ClassFile.FieldType.boolean))
def mX4_allWeights : pj_M := (yX4_allWeights, cX4_allWeights, 5, (Option.some Jvm.ClassFile.FieldType.long))
def mX4_weighed : pj_M := (yX4_weighed, cX4_weighed, 3, (Option.some Jvm.ClassFile.FieldType.long))
def mX4_carries : pj_M := (yX4_carries, cX4_carries, 21, (Option.none : Option Jvm.ClassFile.FieldType))
def mX4_caps : pj_M := (yX4_caps, cX4_caps, 7, (Option.none : Option Jvm.ClassFile.FieldType))
def mX4_books : pj_M := (yX4_books, cX4_books, 5, (Option.none : Option Jvm.ClassFile.FieldType))
def mX4_days : pj_M := (yX4_days, cX4_days, 9, (Option.none : Option Jvm.ClassFile.FieldType))
def mX4_years : pj_M := (yX4_years, cX4_years, 4, (Option.some Jvm.ClassFile.FieldType.int))
def mX4_failed : pj_M := (yX4_failed, cX4_failed, 1, (Option.some Jvm.ClassFile.FieldType.int))
def mX4_account : pj_M := (yX4_account, cX4_account, 2, (Option.some Jvm.ClassFile.FieldType.long))
def mX4_isRefused : pj_M := (yX4_isRefused, cX4_isRefused, 2, (Option.some Jvm.ClassFile.FieldType.boolean))
def mX4_slot : pj_M := (yX4_slot, cX4_slot, 3, (Option.some Jvm.ClassFile.FieldType.long))
def mX4_part : pj_M := (yX4_part, cX4_part, 2, (Option.some Jvm.ClassFile.FieldType.long))
def mX4_got : pj_M := (yX4_got, cX4_got, 2, (Option.some Jvm.ClassFile.FieldType.long))
def mX4_carried : pj_M := (yX4_carried, cX4_carried, 3, (Option.some Jvm.ClassFile.FieldType.long))
def mX4_least : pj_M := (yX4_least, cX4_least, 6, (Option.some Jvm.ClassFile.FieldType.int))
def mX4_isSpan : pj_M := (yX4_isSpan, cX4_isSpan, 3, (Option.some Jvm.ClassFile.FieldType.boolean))
def mX4_leastOf : pj_M := (yX4_leastOf, cX4_leastOf, 7, (Option.some Jvm.ClassFile.FieldType.int))
def mX4_breaks : pj_M := (yX4_breaks, cX4_breaks, 9, (Option.some Jvm.ClassFile.FieldType.boolean))
def mX4_triesAmount : pj_M := (yX4_triesAmount, cX4_triesAmount, 3, (Option.some Jvm.ClassFile.FieldType.boolean))
def mX4_tries : pj_M := (yX4_tries, cX4_tries, 3, (Option.some Jvm.ClassFile.FieldType.boolean))
def mX4_notes : pj_M := (yX4_notes, cX4_notes, 2, (Option.none : Option Jvm.ClassFile.FieldType))
def mX4_differs : pj_M := (yX4_differs, cX4_differs, 5, (Option.some Jvm.ClassFile.FieldType.boolean))
def mX4_isUnfair : pj_M := (yX4_isUnfair, cX4_isUnfair, 7, (Option.some Jvm.ClassFile.FieldType.boolean))
def mX4_floats : pj_M := (yX4_floats, cX4_floats, 4, (Option.none : Option Jvm.ClassFile.FieldType))
def mX4_doesF : pj_M := (yX4_doesF, cX4_doesF, 11, (Option.none : Option Jvm.ClassFile.FieldType))
def mX4_rateF : pj_M := (yX4_rateF, cX4_rateF, 2, (Option.some Jvm.ClassFile.FieldType.double))
def mX4_roundedF : pj_M := (yX4_roundedF, cX4_roundedF, 9, (Option.some Jvm.ClassFile.FieldType.double))
def mX4_splitsF : pj_M := (yX4_splitsF, cX4_splitsF, 7, (Option.none : Option Jvm.ClassFile.FieldType))
def mX4_keepsF : pj_M := (yX4_keepsF, cX4_keepsF, 2, (Option.none : Option Jvm.ClassFile.FieldType))
def mX4_order : pj_M := (yX4_order, cX4_order, 6, (Option.some Jvm.ClassFile.FieldType.int))
def mX4_triesOrder : pj_M := (yX4_triesOrder, cX4_triesOrder, 3, (Option.some Jvm.ClassFile.FieldType.boolean))
def mX4_steps : pj_M := (yX4_steps, cX4_steps, 6, (Option.some Jvm.ClassFile.FieldType.boolean))
def mX4_drift : pj_M := (yX4_drift, cX4_drift, 18, (Option.some Jvm.ClassFile.FieldType.int))
def mX4_mend : pj_M := (yX4_mend, cX4_mend, 10, (Option.some Jvm.ClassFile.FieldType.int))
def mX4_hasChoice : pj_M := (yX4_hasChoice, cX4_hasChoice, 2, (Option.some Jvm.ClassFile.FieldType.boolean))
def mX4_chooses : pj_M := (yX4_chooses, cX4_chooses, 3, (Option.none : Option Jvm.ClassFile.FieldType))
def mX4_same : pj_M := (yX4_same, cX4_same, 7, (Option.some Jvm.ClassFile.FieldType.int))
def mX4_rounded : pj_M := (yX4_rounded, cX4_rounded, 7, (Option.some Jvm.ClassFile.FieldType.long))
def mX4_tape : pj_M := (yX4_tape, cX4_tape, 5, (Option.some Jvm.ClassFile.FieldType.int))
def mX4_isTape : pj_M := (yX4_isTape, cX4_isTape, 1, (Option.some Jvm.ClassFile.FieldType.boolean))
def mX4_refuse : pj_M := (yX4_refuse, cX4_refuse, 2, (Option.some Jvm.ClassFile.FieldType.int))
def mX4_image : pj_M := (yX4_image, cX4_image, 3, (Option.some Jvm.ClassFile.FieldType.int))
def mX4_back : pj_M := (yX4_back, cX4_back, 4, (Option.some Jvm.ClassFile.FieldType.int))
def mX4_lacks : pj_M := (yX4_lacks, cX4_lacks, 2, (Option.some Jvm.ClassFile.FieldType.int))
def mX4_toss : pj_M := (yX4_toss, cX4_toss, 3, (Option.some Jvm.ClassFile.FieldType.int))
def mX4_load : pj_M := (yX4_load, cX4_load, 5, (Option.some Jvm.ClassFile.FieldType.int))
def mX4_clear : pj_M := (yX4_clear, cX4_clear, 3, (Option.some Jvm.ClassFile.FieldType.int))
def mX4_put : pj_M := (yX4_put, cX4_put, 5, (Option.some Jvm.ClassFile.FieldType.int))
def mX4_narrowed : pj_M := (yX4_narrowed, cX4_narrowed, 3, (Option.some Jvm.ClassFile.FieldType.long))
def mX4_at : pj_M := (yX4_at, cX4_at, 3, (Option.some Jvm.ClassFile.FieldType.long))
def mX4_copy : pj_M := (yX4_copy, cX4_copy, 7, (Option.some Jvm.ClassFile.FieldType.int))
def mX4_count : pj_M := (yX4_count, cX4_count, 2, (Option.some Jvm.ClassFile.FieldType.int))
def mX5_init : pj_M := (yX5_init, cX5_init, 1, (Option.none : Option Jvm.ClassFile.FieldType))
def mX5_run : pj_M := (yX5_run, cX5_run, 4, (Option.some Jvm.ClassFile.FieldType.int))
def mX5_loosely : pj_M := (yX5_loosely, cX5_loosely, 4, (Option.none : Option Jvm.ClassFile.FieldType))
def mX6_init : pj_M := (yX6_init, cX6_init, 5, (Option.none : Option Jvm.ClassFile.FieldType))
def mX6_show : pj_M := (yX6_show, cX6_show, 3, (Option.none : Option Jvm.ClassFile.FieldType))
def mX6_choice : pj_M := (yX6_choice, cX6_choice, 1, (Option.some Jvm.ClassFile.FieldType.int))
def mX6_choices : pj_M := (yX6_choices, cX6_choices, 1, (Option.some Jvm.ClassFile.FieldType.int))
def mX6_choose : pj_M := (yX6_choose, cX6_choose, 2, (Option.none : Option Jvm.ClassFile.FieldType))
def mX7_init : pj_M := (yX7_init, cX7_init, 5, (Option.none : Option Jvm.ClassFile.FieldType))
def mX7_does : pj_M := (yX7_does, cX7_does, 5, (Option.some Jvm.ClassFile.FieldType.int))
def mX7_loosely : pj_M := (yX7_loosely, cX7_loosely, 5, (Option.none : Option Jvm.ClassFile.FieldType))
def mX8_init : pj_M := (yX8_init, cX8_init, 5, (Option.none : Option Jvm.ClassFile.FieldType))
def mX8_does : pj_M := (yX8_does, cX8_does, 5, (Option.some Jvm.ClassFile.FieldType.int))
def mX8_loosely : pj_M := (yX8_loosely, cX8_loosely, 7, (Option.none : Option Jvm.ClassFile.FieldType))
def mX8_choice : pj_M := (yX8_choice, cX8_choice, 1, (Option.some Jvm.ClassFile.FieldType.int))
def mX8_choose : pj_M := (yX8_choose, cX8_choose, 2, (Option.none : Option Jvm.ClassFile.FieldType))
def mX9_init : pj_M := (yX9_init, cX9_init, 5, (Option.none : Option Jvm.ClassFile.FieldType))
def mX9_does : pj_M := (yX9_does, cX9_does, 7, (Option.some Jvm.ClassFile.FieldType.int))
def mX9_loosely : pj_M := (yX9_loosely, cX9_loosely, 9, (Option.none : Option Jvm.ClassFile.FieldType))
theorem msJ4_getExponent : pj_MS mJ4_getExponent 1 := ⟨by decide +kernel, by decide +kernel, by decide, q855, q81⟩
theorem msJ5_floor : pj_MS mJ5_floor 1 := ⟨by decide +kernel, by decide +kernel, by decide, q848, q82⟩
theorem msJ5_floorOrCeil : pj_MS mJ5_floorOrCeil 4 := ⟨by decide +kernel, by decide +kernel, by decide, q852, q82⟩
theorem msJ5_ceil : pj_MS mJ5_ceil 1 := ⟨by decide +kernel, by decide +kernel, by decide, q881, q82⟩
theorem msJ5_rint : pj_MS mJ5_rint 1 := ⟨by decide +kernel, by decide +kernel, by decide, q889, q82⟩
theorem msX1_init : pj_MS mX1_init 0 := ⟨by decide +kernel, by decide +kernel, by decide, q99, q58⟩
theorem msX1_begin : pj_MS mX1_begin 0 := ⟨by decide +kernel, by decide +kernel, by decide, q258, q58⟩
theorem msX1_rate : pj_MS mX1_rate 3 := ⟨by decide +kernel, by decide +kernel, by decide, q350, q58⟩
theorem msX1_line : pj_MS mX1_line 1 := ⟨by decide +kernel, by decide +kernel, by decide, q354, q58⟩
theorem msX1_bare : pj_MS mX1_bare 0 := ⟨by decide +kernel, by decide +kernel, by decide, q360, q58⟩
theorem msX1_weight : pj_MS mX1_weight 2 := ⟨by decide +kernel, by decide +kernel, by decide, q364, q58⟩
theorem msX1_program : pj_MS mX1_program 0 := ⟨by decide +kernel, by decide +kernel, by decide, q368, q58⟩
theorem msX1_act : pj_MS mX1_act 5 := ⟨by decide +kernel, by decide +kernel, by decide, q395, q58⟩
theorem msX1_isProgram : pj_MS mX1_isProgram 1 := ⟨by decide +kernel, by decide +kernel, by decide, q399, q58⟩
theorem msX1_fits : pj_MS mX1_fits 3 := ⟨by decide +kernel, by decide +kernel, by decide, q402, q58⟩
theorem msX1_within : pj_MS mX1_within 3 := ⟨by decide +kernel, by decide +kernel, by decide, q405, q58⟩
theorem msX1_made : pj_MS mX1_made 4 := ⟨by decide +kernel, by decide +kernel, by decide, q408, q58⟩
theorem msX1_set : pj_MS mX1_set 4 := ⟨by decide +kernel, by decide +kernel, by decide, q638, q58⟩
theorem msX1_told : pj_MS mX1_told 3 := ⟨by decide +kernel, by decide +kernel, by decide, q642, q58⟩
theorem msX1_run : pj_MS mX1_run 1 := ⟨by decide +kernel, by decide +kernel, by decide, q646, q58⟩
theorem msX1_common : pj_MS mX1_common 2 := ⟨by decide +kernel, by decide +kernel, by decide, q663, q58⟩
theorem msX1_floorOf : pj_MS mX1_floorOf 2 := ⟨by decide +kernel, by decide +kernel, by decide, q690, q58⟩
theorem msX1_whole : pj_MS mX1_whole 3 := ⟨by decide +kernel, by decide +kernel, by decide, q704, q58⟩
theorem msX1_share : pj_MS mX1_share 4 := ⟨by decide +kernel, by decide +kernel, by decide, q754, q58⟩
theorem msX1_wholeWeight : pj_MS mX1_wholeWeight 1 := ⟨by decide +kernel, by decide +kernel, by decide, q758, q58⟩
theorem msX1_weightOf : pj_MS mX1_weightOf 3 := ⟨by decide +kernel, by decide +kernel, by decide, q762, q58⟩
theorem msX1_years : pj_MS mX1_years 2 := ⟨by decide +kernel, by decide +kernel, by decide, q788, q58⟩
theorem msX1_failed : pj_MS mX1_failed 0 := ⟨by decide +kernel, by decide +kernel, by decide, q793, q58⟩
theorem msX1_least : pj_MS mX1_least 5 := ⟨by decide +kernel, by decide +kernel, by decide, q797, q58⟩
theorem msX1_span : pj_MS mX1_span 3 := ⟨by decide +kernel, by decide +kernel, by decide, q800, q58⟩
theorem msX1_firstBreak : pj_MS mX1_firstBreak 5 := ⟨by decide +kernel, by decide +kernel, by decide, q804, q58⟩
theorem msX1_breaksLaw : pj_MS mX1_breaksLaw 4 := ⟨by decide +kernel, by decide +kernel, by decide, q808, q58⟩
theorem msX1_runs : pj_MS mX1_runs 3 := ⟨by decide +kernel, by decide +kernel, by decide, q812, q58⟩
theorem msX1_alike : pj_MS mX1_alike 1 := ⟨by decide +kernel, by decide +kernel, by decide, q821, q58⟩
theorem msX1_farShare : pj_MS mX1_farShare 0 := ⟨by decide +kernel, by decide +kernel, by decide, q825, q58⟩
theorem msX1_loose : pj_MS mX1_loose 3 := ⟨by decide +kernel, by decide +kernel, by decide, q874, q58⟩
theorem msX1_kept : pj_MS mX1_kept 1 := ⟨by decide +kernel, by decide +kernel, by decide, q902, q58⟩
theorem msX1_order : pj_MS mX1_order 1 := ⟨by decide +kernel, by decide +kernel, by decide, q940, q58⟩
theorem msX1_turn : pj_MS mX1_turn 1 := ⟨by decide +kernel, by decide +kernel, by decide, q944, q58⟩
theorem msX1_swap : pj_MS mX1_swap 2 := ⟨by decide +kernel, by decide +kernel, by decide, q948, q58⟩
theorem msX1_mend : pj_MS mX1_mend 4 := ⟨by decide +kernel, by decide +kernel, by decide, q952, q58⟩
theorem msX1_same : pj_MS mX1_same 2 := ⟨by decide +kernel, by decide +kernel, by decide, q1026, q58⟩
theorem msX1_isTape : pj_MS mX1_isTape 1 := ⟨by decide +kernel, by decide +kernel, by decide, q1122, q58⟩
theorem msX1_snag : pj_MS mX1_snag 1 := ⟨by decide +kernel, by decide +kernel, by decide, q1126, q58⟩
theorem msX1_image : pj_MS mX1_image 1 := ⟨by decide +kernel, by decide +kernel, by decide, q1131, q58⟩
theorem msX1_lengthOf : pj_MS mX1_lengthOf 1 := ⟨by decide +kernel, by decide +kernel, by decide, q1254, q58⟩
theorem msX1_wide : pj_MS mX1_wide 2 := ⟨by decide +kernel, by decide +kernel, by decide, q1260, q58⟩
theorem msX1_clear : pj_MS mX1_clear 1 := ⟨by decide +kernel, by decide +kernel, by decide, q1266, q58⟩
theorem msX1_mate : pj_MS mX1_mate 3 := ⟨by decide +kernel, by decide +kernel, by decide, q1292, q58⟩
theorem msX1_count : pj_MS mX1_count 1 := ⟨by decide +kernel, by decide +kernel, by decide, q1296, q58⟩
theorem msX1_account : pj_MS mX1_account 1 := ⟨by decide +kernel, by decide +kernel, by decide, q1304, q58⟩
theorem msX1_slot : pj_MS mX1_slot 2 := ⟨by decide +kernel, by decide +kernel, by decide, q1326, q58⟩
theorem msX1_part : pj_MS mX1_part 1 := ⟨by decide +kernel, by decide +kernel, by decide, q1333, q58⟩
theorem msX1_got : pj_MS mX1_got 1 := ⟨by decide +kernel, by decide +kernel, by decide, q1340, q58⟩
theorem msX1_carried : pj_MS mX1_carried 2 := ⟨by decide +kernel, by decide +kernel, by decide, q1347, q58⟩
theorem msX1_drift : pj_MS mX1_drift 5 := ⟨by decide +kernel, by decide +kernel, by decide, q1354, q58⟩
theorem msX1_spread : pj_MS mX1_spread 5 := ⟨by decide +kernel, by decide +kernel, by decide, q1358, q58⟩
theorem msX1_up : pj_MS mX1_up 4 := ⟨by decide +kernel, by decide +kernel, by decide, q1361, q58⟩
theorem msX1_rounded : pj_MS mX1_rounded 4 := ⟨by decide +kernel, by decide +kernel, by decide, q1368, q58⟩
theorem msX1_element : pj_MS mX1_element 2 := ⟨by decide +kernel, by decide +kernel, by decide, q1381, q58⟩
theorem msX10_init : pj_MS mX10_init 4 := ⟨by decide +kernel, by decide +kernel, by decide, q529, q67⟩
theorem msX10_does : pj_MS mX10_does 1 := ⟨by decide +kernel, by decide +kernel, by decide, q727, q67⟩
theorem msX10_loosely : pj_MS mX10_loosely 1 := ⟨by decide +kernel, by decide +kernel, by decide, q914, q67⟩
theorem msX11_init : pj_MS mX11_init 4 := ⟨by decide +kernel, by decide +kernel, by decide, q540, q68⟩
theorem msX11_does : pj_MS mX11_does 1 := ⟨by decide +kernel, by decide +kernel, by decide, q736, q68⟩
theorem msX11_loosely : pj_MS mX11_loosely 1 := ⟨by decide +kernel, by decide +kernel, by decide, q917, q68⟩
theorem msX11_choice : pj_MS mX11_choice 0 := ⟨by decide +kernel, by decide +kernel, by decide, q968, q68⟩
theorem msX11_choose : pj_MS mX11_choose 1 := ⟨by decide +kernel, by decide +kernel, by decide, q1013, q68⟩
theorem msX12_init : pj_MS mX12_init 4 := ⟨by decide +kernel, by decide +kernel, by decide, q551, q69⟩
theorem msX12_does : pj_MS mX12_does 1 := ⟨by decide +kernel, by decide +kernel, by decide, q655, q69⟩
theorem msX12_loosely : pj_MS mX12_loosely 1 := ⟨by decide +kernel, by decide +kernel, by decide, q833, q69⟩
theorem msX13_init : pj_MS mX13_init 4 := ⟨by decide +kernel, by decide +kernel, by decide, q562, q70⟩
theorem msX13_does : pj_MS mX13_does 1 := ⟨by decide +kernel, by decide +kernel, by decide, q749, q70⟩
theorem msX13_loosely : pj_MS mX13_loosely 1 := ⟨by decide +kernel, by decide +kernel, by decide, q925, q70⟩
theorem msX13_choice : pj_MS mX13_choice 0 := ⟨by decide +kernel, by decide +kernel, by decide, q974, q70⟩
theorem msX13_choices : pj_MS mX13_choices 0 := ⟨by decide +kernel, by decide +kernel, by decide, q993, q70⟩
theorem msX13_choose : pj_MS mX13_choose 1 := ⟨by decide +kernel, by decide +kernel, by decide, q1019, q70⟩
theorem msX14_init : pj_MS mX14_init 4 := ⟨by decide +kernel, by decide +kernel, by decide, q573, q71⟩
theorem msX14_does : pj_MS mX14_does 1 := ⟨by decide +kernel, by decide +kernel, by decide, q720, q71⟩
theorem msX14_loosely : pj_MS mX14_loosely 1 := ⟨by decide +kernel, by decide +kernel, by decide, q911, q71⟩
theorem msX15_init : pj_MS mX15_init 4 := ⟨by decide +kernel, by decide +kernel, by decide, q584, q72⟩
theorem msX15_does : pj_MS mX15_does 1 := ⟨by decide +kernel, by decide +kernel, by decide, q686, q72⟩
theorem msX15_loosely : pj_MS mX15_loosely 1 := ⟨by decide +kernel, by decide +kernel, by decide, q842, q72⟩
theorem msX16_init : pj_MS mX16_init 4 := ⟨by decide +kernel, by decide +kernel, by decide, q595, q73⟩
theorem msX16_does : pj_MS mX16_does 1 := ⟨by decide +kernel, by decide +kernel, by decide, q682, q73⟩
theorem msX16_loosely : pj_MS mX16_loosely 1 := ⟨by decide +kernel, by decide +kernel, by decide, q839, q73⟩
theorem msX17_init : pj_MS mX17_init 4 := ⟨by decide +kernel, by decide +kernel, by decide, q606, q74⟩
theorem msX17_does : pj_MS mX17_does 1 := ⟨by decide +kernel, by decide +kernel, by decide, q675, q74⟩
theorem msX17_loosely : pj_MS mX17_loosely 1 := ⟨by decide +kernel, by decide +kernel, by decide, q836, q74⟩
theorem msX18_init : pj_MS mX18_init 4 := ⟨by decide +kernel, by decide +kernel, by decide, q617, q75⟩
theorem msX18_does : pj_MS mX18_does 1 := ⟨by decide +kernel, by decide +kernel, by decide, q741, q75⟩
theorem msX18_loosely : pj_MS mX18_loosely 1 := ⟨by decide +kernel, by decide +kernel, by decide, q921, q75⟩
theorem msX18_choice : pj_MS mX18_choice 0 := ⟨by decide +kernel, by decide +kernel, by decide, q971, q75⟩
theorem msX18_choose : pj_MS mX18_choose 1 := ⟨by decide +kernel, by decide +kernel, by decide, q1016, q75⟩
theorem msX19_init : pj_MS mX19_init 4 := ⟨by decide +kernel, by decide +kernel, by decide, q628, q76⟩
theorem msX19_does : pj_MS mX19_does 1 := ⟨by decide +kernel, by decide +kernel, by decide, q693, q76⟩
theorem msX19_loosely : pj_MS mX19_loosely 1 := ⟨by decide +kernel, by decide +kernel, by decide, q871, q76⟩
theorem msX2_init : pj_MS mX2_init 0 := ⟨by decide +kernel, by decide +kernel, by decide, q109, q59⟩
theorem msX2_begin : pj_MS mX2_begin 0 := ⟨by decide +kernel, by decide +kernel, by decide, q262, q59⟩
theorem msX2_bare : pj_MS mX2_bare 0 := ⟨by decide +kernel, by decide +kernel, by decide, q266, q59⟩
theorem msX2_bill : pj_MS mX2_bill 2 := ⟨by decide +kernel, by decide +kernel, by decide, q650, q59⟩
theorem msX2_put : pj_MS mX2_put 3 := ⟨by decide +kernel, by decide +kernel, by decide, q660, q59⟩
theorem msX2_isWhole : pj_MS mX2_isWhole 1 := ⟨by decide +kernel, by decide +kernel, by decide, q679, q59⟩
theorem msX2_p : pj_MS mX2_p 1 := ⟨by decide +kernel, by decide +kernel, by decide, q697, q59⟩
theorem msX2_q : pj_MS mX2_q 1 := ⟨by decide +kernel, by decide +kernel, by decide, q701, q59⟩
theorem msX20_init : pj_MS mX20_init 0 := ⟨by decide +kernel, by decide +kernel, by decide, q1136, q87⟩
theorem msX20_failure : pj_MS mX20_failure 0 := ⟨by decide +kernel, by decide +kernel, by decide, q1209, q87⟩
theorem msX21_init : pj_MS mX21_init 1 := ⟨by decide +kernel, by decide +kernel, by decide, q1221, q90⟩
theorem msX3_init : pj_MS mX3_init 0 := ⟨by decide +kernel, by decide +kernel, by decide, q248, q60⟩
theorem msX3_sort : pj_MS mX3_sort 0 := ⟨by decide +kernel, by decide +kernel, by decide, q1270, q60⟩
theorem msX4_init : pj_MS mX4_init 0 := ⟨by decide +kernel, by decide +kernel, by decide, q1401, q61⟩
theorem msX4_resets : pj_MS mX4_resets 0 := ⟨by decide +kernel, by decide +kernel, by decide, q1406, q61⟩
theorem msX4_clears : pj_MS mX4_clears 0 := ⟨by decide +kernel, by decide +kernel, by decide, q1410, q61⟩
theorem msX4_thrown : pj_MS mX4_thrown 0 := ⟨by decide +kernel, by decide +kernel, by decide, q1571, q61⟩
theorem msX4_begin : pj_MS mX4_begin 0 := ⟨by decide +kernel, by decide +kernel, by decide, q1575, q61⟩
theorem msX4_rate : pj_MS mX4_rate 3 := ⟨by decide +kernel, by decide +kernel, by decide, q1579, q61⟩
theorem msX4_in : pj_MS mX4_in 3 := ⟨by decide +kernel, by decide +kernel, by decide, q1582, q61⟩
theorem msX4_line : pj_MS mX4_line 1 := ⟨by decide +kernel, by decide +kernel, by decide, q1586, q61⟩
theorem msX4_isLine : pj_MS mX4_isLine 1 := ⟨by decide +kernel, by decide +kernel, by decide, q1589, q61⟩
theorem msX4_bare : pj_MS mX4_bare 0 := ⟨by decide +kernel, by decide +kernel, by decide, q1595, q61⟩
theorem msX4_weight : pj_MS mX4_weight 2 := ⟨by decide +kernel, by decide +kernel, by decide, q1599, q61⟩
theorem msX4_program : pj_MS mX4_program 0 := ⟨by decide +kernel, by decide +kernel, by decide, q1603, q61⟩
theorem msX4_act : pj_MS mX4_act 5 := ⟨by decide +kernel, by decide +kernel, by decide, q1607, q61⟩
theorem msX4_isProgram : pj_MS mX4_isProgram 1 := ⟨by decide +kernel, by decide +kernel, by decide, q1611, q61⟩
theorem msX4_fits : pj_MS mX4_fits 3 := ⟨by decide +kernel, by decide +kernel, by decide, q1614, q61⟩
theorem msX4_set : pj_MS mX4_set 4 := ⟨by decide +kernel, by decide +kernel, by decide, q1619, q61⟩
theorem msX4_isAct : pj_MS mX4_isAct 2 := ⟨by decide +kernel, by decide +kernel, by decide, q1623, q61⟩
theorem msX4_told : pj_MS mX4_told 3 := ⟨by decide +kernel, by decide +kernel, by decide, q1627, q61⟩
theorem msX4_run : pj_MS mX4_run 1 := ⟨by decide +kernel, by decide +kernel, by decide, q1631, q61⟩
theorem msX4_runsReal : pj_MS mX4_runsReal 1 := ⟨by decide +kernel, by decide +kernel, by decide, q1635, q61⟩
theorem msX4_runs : pj_MS mX4_runs 1 := ⟨by decide +kernel, by decide +kernel, by decide, q1639, q61⟩
theorem msX4_does : pj_MS mX4_does 2 := ⟨by decide +kernel, by decide +kernel, by decide, q1643, q61⟩
theorem msX4_plain : pj_MS mX4_plain 2 := ⟨by decide +kernel, by decide +kernel, by decide, q1647, q61⟩
theorem msX4_becomesWhole : pj_MS mX4_becomesWhole 2 := ⟨by decide +kernel, by decide +kernel, by decide, q1651, q61⟩
theorem msX4_becomes : pj_MS mX4_becomes 3 := ⟨by decide +kernel, by decide +kernel, by decide, q1655, q61⟩
theorem msX4_common : pj_MS mX4_common 2 := ⟨by decide +kernel, by decide +kernel, by decide, q1658, q61⟩
theorem msX4_taxes : pj_MS mX4_taxes 4 := ⟨by decide +kernel, by decide +kernel, by decide, q1665, q61⟩
theorem msX4_times : pj_MS mX4_times 3 := ⟨by decide +kernel, by decide +kernel, by decide, q1668, q61⟩
theorem msX4_floor : pj_MS mX4_floor 2 := ⟨by decide +kernel, by decide +kernel, by decide, q1671, q61⟩
theorem msX4_rates : pj_MS mX4_rates 3 := ⟨by decide +kernel, by decide +kernel, by decide, q1676, q61⟩
theorem msX4_adds : pj_MS mX4_adds 3 := ⟨by decide +kernel, by decide +kernel, by decide, q1680, q61⟩
theorem msX4_splits : pj_MS mX4_splits 3 := ⟨by decide +kernel, by decide +kernel, by decide, q1684, q61⟩
theorem msX4_partsOf : pj_MS mX4_partsOf 1 := ⟨by decide +kernel, by decide +kernel, by decide, q1688, q61⟩
theorem msX4_isEven : pj_MS mX4_isEven 1 := ⟨by decide +kernel, by decide +kernel, by decide, q1692, q61⟩
theorem msX4_allWeights : pj_MS mX4_allWeights 1 := ⟨by decide +kernel, by decide +kernel, by decide, q1696, q61⟩
theorem msX4_weighed : pj_MS mX4_weighed 2 := ⟨by decide +kernel, by decide +kernel, by decide, q1700, q61⟩
theorem msX4_carries : pj_MS mX4_carries 2 := ⟨by decide +kernel, by decide +kernel, by decide, q1704, q61⟩
theorem msX4_caps : pj_MS mX4_caps 3 := ⟨by decide +kernel, by decide +kernel, by decide, q1708, q61⟩
theorem msX4_books : pj_MS mX4_books 3 := ⟨by decide +kernel, by decide +kernel, by decide, q1712, q61⟩
theorem msX4_days : pj_MS mX4_days 3 := ⟨by decide +kernel, by decide +kernel, by decide, q1716, q61⟩
theorem msX4_years : pj_MS mX4_years 2 := ⟨by decide +kernel, by decide +kernel, by decide, q1720, q61⟩
theorem msX4_failed : pj_MS mX4_failed 0 := ⟨by decide +kernel, by decide +kernel, by decide, q1724, q61⟩
theorem msX4_account : pj_MS mX4_account 1 := ⟨by decide +kernel, by decide +kernel, by decide, q1728, q61⟩
theorem msX4_isRefused : pj_MS mX4_isRefused 1 := ⟨by decide +kernel, by decide +kernel, by decide, q1732, q61⟩
theorem msX4_slot : pj_MS mX4_slot 2 := ⟨by decide +kernel, by decide +kernel, by decide, q1736, q61⟩
theorem msX4_part : pj_MS mX4_part 1 := ⟨by decide +kernel, by decide +kernel, by decide, q1740, q61⟩
theorem msX4_got : pj_MS mX4_got 1 := ⟨by decide +kernel, by decide +kernel, by decide, q1744, q61⟩
theorem msX4_carried : pj_MS mX4_carried 2 := ⟨by decide +kernel, by decide +kernel, by decide, q1748, q61⟩
theorem msX4_least : pj_MS mX4_least 5 := ⟨by decide +kernel, by decide +kernel, by decide, q1752, q61⟩
theorem msX4_isSpan : pj_MS mX4_isSpan 3 := ⟨by decide +kernel, by decide +kernel, by decide, q1755, q61⟩
theorem msX4_leastOf : pj_MS mX4_leastOf 5 := ⟨by decide +kernel, by decide +kernel, by decide, q1760, q61⟩
theorem msX4_breaks : pj_MS mX4_breaks 4 := ⟨by decide +kernel, by decide +kernel, by decide, q1764, q61⟩
theorem msX4_triesAmount : pj_MS mX4_triesAmount 2 := ⟨by decide +kernel, by decide +kernel, by decide, q1768, q61⟩
theorem msX4_tries : pj_MS mX4_tries 1 := ⟨by decide +kernel, by decide +kernel, by decide, q1772, q61⟩
theorem msX4_notes : pj_MS mX4_notes 0 := ⟨by decide +kernel, by decide +kernel, by decide, q1776, q61⟩
theorem msX4_differs : pj_MS mX4_differs 1 := ⟨by decide +kernel, by decide +kernel, by decide, q1781, q61⟩
theorem msX4_isUnfair : pj_MS mX4_isUnfair 0 := ⟨by decide +kernel, by decide +kernel, by decide, q1785, q61⟩
theorem msX4_floats : pj_MS mX4_floats 2 := ⟨by decide +kernel, by decide +kernel, by decide, q1789, q61⟩
theorem msX4_doesF : pj_MS mX4_doesF 2 := ⟨by decide +kernel, by decide +kernel, by decide, q1793, q61⟩
theorem msX4_rateF : pj_MS mX4_rateF 1 := ⟨by decide +kernel, by decide +kernel, by decide, q1797, q61⟩
theorem msX4_roundedF : pj_MS mX4_roundedF 3 := ⟨by decide +kernel, by decide +kernel, by decide, q1800, q61⟩
theorem msX4_splitsF : pj_MS mX4_splitsF 3 := ⟨by decide +kernel, by decide +kernel, by decide, q1808, q61⟩
theorem msX4_keepsF : pj_MS mX4_keepsF 1 := ⟨by decide +kernel, by decide +kernel, by decide, q1812, q61⟩
theorem msX4_order : pj_MS mX4_order 1 := ⟨by decide +kernel, by decide +kernel, by decide, q1819, q61⟩
theorem msX4_triesOrder : pj_MS mX4_triesOrder 1 := ⟨by decide +kernel, by decide +kernel, by decide, q1823, q61⟩
theorem msX4_steps : pj_MS mX4_steps 0 := ⟨by decide +kernel, by decide +kernel, by decide, q1827, q61⟩
theorem msX4_drift : pj_MS mX4_drift 5 := ⟨by decide +kernel, by decide +kernel, by decide, q1831, q61⟩
theorem msX4_mend : pj_MS mX4_mend 4 := ⟨by decide +kernel, by decide +kernel, by decide, q1835, q61⟩
theorem msX4_hasChoice : pj_MS mX4_hasChoice 1 := ⟨by decide +kernel, by decide +kernel, by decide, q1839, q61⟩
theorem msX4_chooses : pj_MS mX4_chooses 2 := ⟨by decide +kernel, by decide +kernel, by decide, q1843, q61⟩
theorem msX4_same : pj_MS mX4_same 2 := ⟨by decide +kernel, by decide +kernel, by decide, q1847, q61⟩
theorem msX4_rounded : pj_MS mX4_rounded 4 := ⟨by decide +kernel, by decide +kernel, by decide, q1851, q61⟩
theorem msX4_tape : pj_MS mX4_tape 3 := ⟨by decide +kernel, by decide +kernel, by decide, q1857, q61⟩
theorem msX4_isTape : pj_MS mX4_isTape 1 := ⟨by decide +kernel, by decide +kernel, by decide, q1860, q61⟩
theorem msX4_refuse : pj_MS mX4_refuse 1 := ⟨by decide +kernel, by decide +kernel, by decide, q1864, q61⟩
theorem msX4_image : pj_MS mX4_image 1 := ⟨by decide +kernel, by decide +kernel, by decide, q1868, q61⟩
theorem msX4_back : pj_MS mX4_back 1 := ⟨by decide +kernel, by decide +kernel, by decide, q1872, q61⟩
theorem msX4_lacks : pj_MS mX4_lacks 1 := ⟨by decide +kernel, by decide +kernel, by decide, q1876, q61⟩
theorem msX4_toss : pj_MS mX4_toss 1 := ⟨by decide +kernel, by decide +kernel, by decide, q1880, q61⟩
theorem msX4_load : pj_MS mX4_load 3 := ⟨by decide +kernel, by decide +kernel, by decide, q1884, q61⟩
theorem msX4_clear : pj_MS mX4_clear 1 := ⟨by decide +kernel, by decide +kernel, by decide, q1888, q61⟩
theorem msX4_put : pj_MS mX4_put 3 := ⟨by decide +kernel, by decide +kernel, by decide, q1892, q61⟩
theorem msX4_narrowed : pj_MS mX4_narrowed 2 := ⟨by decide +kernel, by decide +kernel, by decide, q1895, q61⟩
theorem msX4_at : pj_MS mX4_at 2 := ⟨by decide +kernel, by decide +kernel, by decide, q1899, q61⟩
theorem msX4_copy : pj_MS mX4_copy 5 := ⟨by decide +kernel, by decide +kernel, by decide, q1903, q61⟩
theorem msX4_count : pj_MS mX4_count 1 := ⟨by decide +kernel, by decide +kernel, by decide, q1907, q61⟩
theorem msX5_init : pj_MS mX5_init 0 := ⟨by decide +kernel, by decide +kernel, by decide, q372, q62⟩
theorem msX5_run : pj_MS mX5_run 1 := ⟨by decide +kernel, by decide +kernel, by decide, q816, q62⟩
theorem msX5_loosely : pj_MS mX5_loosely 1 := ⟨by decide +kernel, by decide +kernel, by decide, q829, q62⟩
theorem msX6_init : pj_MS mX6_init 4 := ⟨by decide +kernel, by decide +kernel, by decide, q416, q63⟩
theorem msX6_show : pj_MS mX6_show 2 := ⟨by decide +kernel, by decide +kernel, by decide, q672, q63⟩
theorem msX6_choice : pj_MS mX6_choice 0 := ⟨by decide +kernel, by decide +kernel, by decide, q977, q63⟩
theorem msX6_choices : pj_MS mX6_choices 0 := ⟨by decide +kernel, by decide +kernel, by decide, q997, q63⟩
theorem msX6_choose : pj_MS mX6_choose 1 := ⟨by decide +kernel, by decide +kernel, by decide, q1022, q63⟩
theorem msX7_init : pj_MS mX7_init 4 := ⟨by decide +kernel, by decide +kernel, by decide, q413, q64⟩
theorem msX7_does : pj_MS mX7_does 1 := ⟨by decide +kernel, by decide +kernel, by decide, q767, q64⟩
theorem msX7_loosely : pj_MS mX7_loosely 1 := ⟨by decide +kernel, by decide +kernel, by decide, q930, q64⟩
theorem msX8_init : pj_MS mX8_init 4 := ⟨by decide +kernel, by decide +kernel, by decide, q507, q65⟩
theorem msX8_does : pj_MS mX8_does 1 := ⟨by decide +kernel, by decide +kernel, by decide, q776, q65⟩
theorem msX8_loosely : pj_MS mX8_loosely 1 := ⟨by decide +kernel, by decide +kernel, by decide, q933, q65⟩
theorem msX8_choice : pj_MS mX8_choice 0 := ⟨by decide +kernel, by decide +kernel, by decide, q963, q65⟩
theorem msX8_choose : pj_MS mX8_choose 1 := ⟨by decide +kernel, by decide +kernel, by decide, q1008, q65⟩
theorem msX9_init : pj_MS mX9_init 4 := ⟨by decide +kernel, by decide +kernel, by decide, q518, q66⟩
theorem msX9_does : pj_MS mX9_does 1 := ⟨by decide +kernel, by decide +kernel, by decide, q710, q66⟩
theorem msX9_loosely : pj_MS mX9_loosely 1 := ⟨by decide +kernel, by decide +kernel, by decide, q907, q66⟩
