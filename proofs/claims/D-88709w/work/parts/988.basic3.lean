/-! begin, the whole; calls that only tell. Own work. -/
set_option maxRecDepth 100000
theorem bg_w (w : sx_M) : (∀ k, k < 8 → sx_I (fc_bgU w) 0 k = 0 ∧ sx_I (fc_bgU w) 1 k = 1 ∧ sx_L (fc_bgU w) 8 k = 0) ∧ (∀ k, k < 4 → sx_I (fc_bgU w) 5 k = 2) ∧ (∀ k, k < 32 → sx_I (fc_bgU w) 4 k = if k % 8 < 2 then 1 else sx_I w 4 k) ∧ sx_I (fc_bgU w) 2 = sx_I w 2 ∧ sx_i (fc_bgU w) 3 = 0 ∧ sx_i (fc_bgU w) 7 = 0 ∧ sx_i (fc_bgU w) 9 = 0 ∧ sx_i (fc_bgU w) 15 = -2 ∧ sx_i (fc_bgU w) 24 = 0 := by
  have A : (fun z : sx_M => (∀ k, k < 8 → sx_I z 0 k = 0 ∧ sx_I z 1 k = 1 ∧ sx_L z 8 k = 0) ∧ sx_I z 2 = sx_I w 2 ∧ sx_I z 4 = sx_I w 4) (it_up fc_bgA 8 0 w) := by
    refine it_inv (P := fun n (z : sx_M) => (∀ k, k < n → sx_I z 0 k = 0 ∧ sx_I z 1 k = 1 ∧ sx_L z 8 k = 0) ∧ sx_I z 2 = sx_I w 2 ∧ sx_I z 4 = sx_I w 4) (n := 8) ?_ 8 0 w (by omega) ⟨fun k hk => absurd hk (by omega), rfl, rfl⟩
    intro n z hn ⟨h1, h2, h3⟩
    unfold fc_bgA
    rw [rl_c (show n < 100000 by omega)]
    refine ⟨fun k hk => ?_, h2, h3⟩
    show upd (sx_I z 0) n 0 k = 0 ∧ upd (sx_I z 1) n 1 k = 1 ∧ vp_updL (sx_L z 8) n 0 k = 0
    rw [rg_u, rg_u, rg_uL]
    by_cases c : k = n
    · rw [if_pos c, if_pos c, if_pos c]; exact ⟨rfl, rfl, rfl⟩
    · rw [if_neg c, if_neg c, if_neg c]; exact h1 k (by omega)
  obtain ⟨a1, a2, a3⟩ := A
  generalize hX : it_up fc_bgA 8 0 w = X at *
  have B : (fun z : sx_M => (∀ k, k < 8 → sx_I z 0 k = 0 ∧ sx_I z 1 k = 1 ∧ sx_L z 8 k = 0) ∧ sx_I z 2 = sx_I w 2 ∧ (∀ k, k < 4 → sx_I z 5 k = 2) ∧ ∀ k, k < 32 → sx_I z 4 k = if k < 8 * 4 ∧ k % 8 < 2 then 1 else sx_I w 4 k) (it_up fc_bgB 4 0 X) := by
    refine it_inv (P := fun n (z : sx_M) => (∀ k, k < 8 → sx_I z 0 k = 0 ∧ sx_I z 1 k = 1 ∧ sx_L z 8 k = 0) ∧ sx_I z 2 = sx_I w 2 ∧ (∀ k, k < n → sx_I z 5 k = 2) ∧ ∀ k, k < 32 → sx_I z 4 k = if k < 8 * n ∧ k % 8 < 2 then 1 else sx_I w 4 k) (n := 4) ?_ 4 0 X (by omega) ⟨a1, a2, fun k hk => absurd hk (by omega), fun k hk => by rw [if_neg (by omega), a3]⟩
    intro n z hn ⟨h1, h2, h3, h4⟩
    unfold fc_bgB
    rw [rl_c (show n < 100000 by omega), (ib_8 hn).2.2.1, (ib_8 hn).2.2.2]
    refine ⟨h1, h2, fun k hk => ?_, fun k hk => ?_⟩
    · show upd (sx_I z 5) n 2 k = 2
      rw [rg_u]
      by_cases c : k = n
      · rw [if_pos c]
      · rw [if_neg c]; exact h3 k (by omega)
    · show upd (upd (sx_I z 4) (8 * n) 1) (8 * n + 1) 1 k = _
      rw [rg_u, rg_u, h4 k hk]
      by_cases c1 : k = 8 * n + 1
      · rw [if_pos c1, if_pos (by omega)]
      · rw [if_neg c1]
        by_cases c2 : k = 8 * n
        · rw [if_pos c2, if_pos (by omega)]
        · rw [if_neg c2]
          by_cases c3 : k < 8 * n ∧ k % 8 < 2
          · rw [if_pos c3, if_pos (by omega)]
          · rw [if_neg c3, if_neg (by omega)]
  obtain ⟨b1, b2, b3, b4⟩ := B
  unfold fc_bgU
  rw [hX]
  generalize it_up fc_bgB 4 0 X = Y at *
  refine ⟨b1, b3, fun k hk => ?_, b2, rfl, rfl, rfl, rfl, rfl⟩
  show sx_I Y 4 k = _
  rw [b4 k hk]
  by_cases q : k % 8 < 2
  · rw [if_pos ⟨by omega, q⟩, if_pos q]
  · rw [if_neg (fun z => q z.2), if_neg q]
theorem sR_a (c : sx_C) (w r : sx_M) : sx_R (sx_sR (sx_sM c w) 0 r) 0 = r := rfl
theorem sR_b (c : sx_C) (w r : sx_M) : (sx_sR (sx_sM c w) 0 r).1 = w := rfl
theorem sR_c (c : sx_C) (w r : sx_M) : sx_R (sx_sR (sx_sM c w) 0 r) 1 = sx_R c 1 := rfl
theorem sR_d (c : sx_C) (w r : sx_M) : sx_R (sx_sR (sx_sM c w) 0 r) 2 = sx_R c 2 := rfl
def bgM (m Y : sx_M) : Prop := (∀ k, k < 8 → sx_I Y 1 k = 0 ∧ sx_I Y 2 k = 1) ∧ (∀ k, k < 4 → sx_I Y 5 k = 2) ∧ (∀ k, k < 32 → sx_I Y 6 k = if k % 8 < 2 then 1 else sx_I m 6 k) ∧ (∀ k, k < 8 → sx_L Y 23 k = 0) ∧ sx_i Y 3 = 0 ∧ sx_i Y 7 = 0 ∧ sx_i Y 13 = 0 ∧ sx_i Y 14 = -2 ∧ sx_i Y 15 = 0 ∧ rl_h 0 Y ∧
    (∀ k, k < 8 → sx_L Y 19 k = 0 ∧ sx_L Y 20 k = 1 ∧ sx_I Y 26 k = 0 ∧ sx_L Y 21 k = 0) ∧ (∀ k, k < 12 → sx_L Y 22 k = 0) ∧ sx_I Y 4 = sx_I m 4 ∧ af m Y
def bgW (w W : sx_M) : Prop := (∀ k, k < 8 → sx_I W 0 k = 0 ∧ sx_I W 1 k = 1 ∧ sx_L W 8 k = 0) ∧ (∀ k, k < 4 → sx_I W 5 k = 2) ∧ (∀ k, k < 32 → sx_I W 4 k = if k % 8 < 2 then 1 else sx_I w 4 k) ∧ sx_I W 2 = sx_I w 2 ∧ sx_i W 3 = 0 ∧ sx_i W 7 = 0 ∧ sx_i W 9 = 0 ∧ sx_i W 15 = -2 ∧ sx_i W 24 = 0
def bgZ (u Z : sx_M) : Prop := (∀ k, k < 8 → sx_L Z 0 k = 0 ∧ sx_L Z 1 k = 1 ∧ sx_I Z 2 k = 0 ∧ sx_L Z 3 k = 0) ∧ (∀ k, k < 12 → sx_L Z 7 k = 0) ∧ sx_I Z 8 = sx_I u 8
theorem bg_Z0 {x Z : sx_M} {ga : Nat → Int64} (E0 : x = fr_bareS (sx_sL Z 12 ga)) : (∀ i, i ≠ 12 → sx_L x i = sx_L Z i) ∧ sx_I x = sx_I Z := by
  subst E0
  refine ⟨fun i hi => ?_, rfl⟩
  show (if i = 12 then ga else sx_L Z i) = _
  rw [if_neg hi]
theorem bg_aux {c : sx_C} {m : sx_M} (h : bg c m) {C : sx_C} {Z W Y : sx_M} {ga : Nat → Int64} (hm : bgM m Y) (hw : bgW c.1 W) (hz : bgZ (sx_R c 0) Z) (E0 : sx_R C 0 = fr_bareS (sx_sL Z 12 ga)) (E1 : C.1 = W) (E2 : sx_R C 1 = sx_R c 1) (E3 : sx_R C 2 = sx_R c 2) : iv C Y ∧ af m Y ∧ sx_i Y 7 = 0 := by
  obtain ⟨g1, g2, g3, g4, g5, g6⟩ := h
  obtain ⟨m1, m2, m3, m4, m5, m6, m7, m8, m9, m10, m11, m12, m13, m14⟩ := hm
  obtain ⟨w1, w2, w3, w4, w5, w6, w7, w8, w9⟩ := hw
  obtain ⟨b1, b2, b9⟩ := hz
  obtain ⟨Z0, Z1⟩ := bg_Z0 E0
  unfold iv rl_w ln rl_s
  rw [E1, E2, E3, Z1, Z0 0 (by decide), Z0 1 (by decide), Z0 3 (by decide), Z0 7 (by decide)]
  refine ⟨⟨⟨fun k hk => ?_, fun k hk => ?_, fun k hk => ?_⟩, ⟨0, by omega, w5, m5, fun k hk => absurd hk (by omega), ?_⟩, ?_, ?_, fun k hk => ?_, ?_, ?_, ?_, m10, ⟨fun k hk => ?_, fun k hk => ?_, fun k hk => ?_, fun k hk => ?_, fun k hk => ?_⟩, ?_, g4, g5⟩, m14, m6⟩
  · rw [(w1 k hk).1, (w1 k hk).2.1, (m1 k hk).1, (m1 k hk).2]
    decide
  · rw [w2 k hk, m2 k hk]
    exact ⟨rfl, vp_in_nI (n := 2) (by decide) (by decide)⟩
  · rw [w3 k hk, m3 k hk]
    by_cases q : k % 8 < 2
    · rw [if_pos q, if_pos q]; decide
    · rw [if_neg q, if_neg q]; exact g1 k hk
  · rw [w4]; exact g2
  · rw [w6, m6]
  · rw [m6]; exact vp_in_nI (n := 0) (by decide) (by decide)
  · rw [(w1 k hk).2.2, m4 k hk]
  · rw [w7, m7]
  · rw [w8, m8]
  · rw [w9, m9]
  · rw [show 8 * 0 + k = k by omega, (m11 k hk).1]; exact (b1 k hk).1
  · rw [show 8 * 0 + k = k by omega, (m11 k hk).2.1]; exact (b1 k hk).2.1
  · rw [show 8 * 0 + k = k by omega, (m11 k hk).2.2.1]; exact (b1 k hk).2.2.1
  · rw [show 8 * 0 + k = k by omega, (m11 k hk).2.2.2]; exact (b1 k hk).2.2.2
  · rw [show 12 * 0 + k = k by omega, m12 k hk]; exact b2 k hk
  · intro k hk
    rw [Z1, b9]; exact g3 k hk
theorem ba_begin {c : sx_C} {m : sx_M} (h : bg c m) : iv (fc_begin c) (fm_resets m) ∧ af m (fm_resets m) ∧ sx_i (fm_resets m) 7 = 0 := by
  obtain ⟨b1, b2, b3, b4, b5, b6, b7, b8, b9, b10⟩ := ub_begin (sx_R c 0)
  obtain ⟨ga, ea, za⟩ := br_u (fr_begin (sx_R c 0))
  refine bg_aux h (Z := fr_begin (sx_R c 0)) (W := fc_bgU c.1) (ga := ga) (bg_m h.2.2.2.2.2) (bg_w c.1) ⟨fun k hk => ⟨(b1 k hk).1, (b1 k hk).2.1, (b1 k hk).2.2.1, (b1 k hk).2.2.2.1⟩, b2, b9⟩ ?_ ?_ ?_ ?_
  · rw [← ea]
    unfold fc_begin
    exact sR_a _ _ _
  · unfold fc_begin
    exact sR_b _ _ _
  · unfold fc_begin
    exact sR_c _ _ _
  · unfold fc_begin
    exact sR_d _ _ _
/-- the model notes whether it threw: nothing else changes -/
theorem iv_th {c : sx_C} {m : sx_M} (h : iv c m) (v : Int32) : iv c (sx_si m 0 v) ∧ af m (sx_si m 0 v) ∧ pf m (sx_si m 0 v) := ⟨h, ⟨fun _ _ _ => rfl, fun _ _ => rfl⟩, ⟨fun _ _ _ => rfl, rfl, rfl, rfl⟩⟩
/-- a snag is counted by both -/
theorem iv_snag {c : sx_C} {m : sx_M} (h : iv c m) (e : Int32) : (fc_snag c.1 e).1 = (fm_refuse m e).1 ∧ iv (sx_sM c (fc_snag c.1 e).2) (fm_refuse m e).2 ∧ af m (fm_refuse m e).2 ∧ pf m (fm_refuse m e).2 := by
  obtain ⟨w, h2, h3, h4, h5, h6, h7, h8, h9, h10, h11, h12, h13⟩ := h
  refine ⟨rfl, ⟨w, h2, h3, h4, h5, h6, h7, ?_, h9, h10, h11, h12, h13⟩, ⟨fun _ _ _ => rfl, fun _ _ => rfl⟩, ⟨fun _ _ _ => rfl, rfl, rfl, rfl⟩⟩
  show sx_i c.1 24 + 1 = sx_i m 15 + 1
  rw [h8]
theorem iv_isP {c : sx_C} {m : sx_M} (h : iv c m) (p : Int32) : fc_isProgram c.1 p = fm_isProgram m p := law_isProgram h.2.2.1 h.2.2.2.1 p
