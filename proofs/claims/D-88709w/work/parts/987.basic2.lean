/-! begin. Own work. -/
set_option maxRecDepth 100000
def bg (c : sx_C) (m : sx_M) : Prop := (∀ k, k < 32 → sx_I c.1 4 k = sx_I m 6 k ∧ 0 ≤ (sx_I c.1 4 k).toInt ∧ (sx_I c.1 4 k).toInt ≤ 1000) ∧ (∀ k, k < 12 → (sx_I c.1 2 k).toInt.natAbs ≤ 1000000) ∧ ub (sx_R c 0) ∧ ub (sx_R c 1) ∧ ub (sx_R c 2) ∧ ∀ i, i < 16 → sx_I m 26 i = 0 ∨ sx_I m 26 i = 1
theorem iv.bg {c : sx_C} {m : sx_M} (h : iv c m) : bg c m := by
  obtain ⟨⟨w1, w2, w3⟩, ⟨nl, hnl, l1, l2, l3, l4⟩, h3, h4, h5, h6, h7, h8, h9, h10, h11, h12, h13⟩ := h
  exact ⟨w3, l4, h11, h12, h13, h9.2.2⟩
theorem sI_sw (m : sx_M) (i j : Nat) (h : i ≠ j) (f1 f2 g : Nat → Int32) : sx_sI (sx_sI (sx_sI m i f1) j f2) i g = sx_sI (sx_sI m i g) j f2 := by
  have : va_up (va_up (va_up m.2.2.2.1 i f1) j f2) i g = va_up (va_up m.2.2.2.1 i g) j f2 := by
    funext k
    unfold va_up
    by_cases a : k = i
    · rw [if_pos a, if_neg (by omega), if_pos a]
    · rw [if_neg a]
      by_cases b : k = j
      · rw [if_pos b, if_pos b]
      · rw [if_neg b, if_neg b, if_neg a, if_neg a]
  unfold sx_sI
  show (m.1, m.2.1, m.2.2.1, va_up (va_up (va_up m.2.2.2.1 i f1) j f2) i g, m.2.2.2.2) = _
  rw [this]
theorem ib_8 {k : Nat} (hk : k < 4) : (8 * nI k : Int32).toNatClampNeg = 8 * k ∧ (8 * nI k + 1 : Int32).toNatClampNeg = 8 * k + 1 ∧ (nI k * 8 : Int32).toNatClampNeg = 8 * k ∧ (nI k * 8 + 1 : Int32).toNatClampNeg = 8 * k + 1 := by
  have a : (8 * nI k : Int32) = nI (8 * k) := pk_mul 8 k
  have b : (nI k * 8 : Int32) = nI (k * 8) := pk_mul k 8
  rw [a, b, show (1 : Int32) = nI 1 from rfl, nI_add, nI_add, nI_clamp (by omega), nI_clamp (by omega), nI_clamp (by omega), nI_clamp (by omega)]
  omega
/-- the model's resetting -/
theorem bg_m {m : sx_M} (hs : ∀ i, i < 16 → sx_I m 26 i = 0 ∨ sx_I m 26 i = 1) : (∀ k, k < 8 → sx_I (fm_resets m) 1 k = 0 ∧ sx_I (fm_resets m) 2 k = 1) ∧ (∀ k, k < 4 → sx_I (fm_resets m) 5 k = 2) ∧ (∀ k, k < 32 → sx_I (fm_resets m) 6 k = if k % 8 < 2 then 1 else sx_I m 6 k) ∧ (∀ k, k < 8 → sx_L (fm_resets m) 23 k = 0) ∧ sx_i (fm_resets m) 3 = 0 ∧ sx_i (fm_resets m) 7 = 0 ∧ sx_i (fm_resets m) 13 = 0 ∧ sx_i (fm_resets m) 14 = -2 ∧ sx_i (fm_resets m) 15 = 0 ∧ rl_h 0 (fm_resets m) ∧
    (∀ k, k < 8 → sx_L (fm_resets m) 19 k = 0 ∧ sx_L (fm_resets m) 20 k = 1 ∧ sx_I (fm_resets m) 26 k = 0 ∧ sx_L (fm_resets m) 21 k = 0) ∧ (∀ k, k < 12 → sx_L (fm_resets m) 22 k = 0) ∧ sx_I (fm_resets m) 4 = sx_I m 4 ∧ af m (fm_resets m) := by
  have A : (fun z : sx_M => ∃ f1 f2, z = sx_sI (sx_sI m 1 f1) 2 f2 ∧ ∀ k, k < 8 → f1 k = 0 ∧ f2 k = 1) (it_up fm_rsA 8 0 m) := by
    refine it_inv (P := fun n (z : sx_M) => ∃ f1 f2, z = sx_sI (sx_sI m 1 f1) 2 f2 ∧ ∀ k, k < n → f1 k = 0 ∧ f2 k = 1) (n := 8) ?_ 8 0 m (by omega) ⟨sx_I m 1, sx_I m 2, ?_, fun k hk => absurd hk (by omega)⟩
    · intro n z hn ⟨f1, f2, e, h⟩
      subst e
      unfold fm_rsA
      rw [rl_c (show n < 100000 by omega)]
      refine ⟨upd f1 n 0, upd f2 n 1, ?_, fun k hk => ?_⟩
      · have e1 : sx_I (sx_sI (sx_sI m 1 f1) 2 f2) 1 = f1 := rfl
        have e2 : sx_I (sx_sI (sx_sI m 1 f1) 2 f2) 2 = f2 := rfl
        rw [e1, e2]
        have sw : ∀ (g : Nat → Int32), sx_sI (sx_sI (sx_sI m 1 f1) 2 f2) 1 g = sx_sI (sx_sI m 1 g) 2 f2 := fun g => sI_sw m 1 2 (by decide) f1 f2 g
        rw [sw, rl_sI2]
      · rw [rg_u, rg_u]
        by_cases c : k = n
        · rw [if_pos c, if_pos c]; exact ⟨rfl, rfl⟩
        · rw [if_neg c, if_neg c]; exact h k (by omega)
    · exact (rl_sI1 m 1).trans (by
        have := rl_sI1 (sx_sI m 1 (sx_I m 1)) 2
        exact this)
  obtain ⟨f1, f2, e1, h1⟩ := A
  have B : (fun z : sx_M => ∃ f5 f6, z = sx_sI (sx_sI (sx_sI (sx_sI m 1 f1) 2 f2) 5 f5) 6 f6 ∧ (∀ k, k < 4 → f5 k = 2) ∧ ∀ k, k < 32 → f6 k = if k % 8 < 2 then 1 else sx_I m 6 k) (it_up fm_rsB 4 0 (sx_sI (sx_sI m 1 f1) 2 f2)) := by
    refine it_inv (P := fun n (z : sx_M) => ∃ f5 f6, z = sx_sI (sx_sI (sx_sI (sx_sI m 1 f1) 2 f2) 5 f5) 6 f6 ∧ (∀ k, k < n → f5 k = 2) ∧ ∀ k, k < 32 → f6 k = if k < 8 * n ∧ k % 8 < 2 then 1 else sx_I m 6 k) (n := 4) ?_ 4 0 _ (by omega) ⟨sx_I m 5, sx_I m 6, ?_, fun k hk => absurd hk (by omega), fun k hk => by rw [if_neg (by omega)]⟩ |> fun ⟨f5, f6, a, b, c⟩ => ⟨f5, f6, a, b, fun k hk => by rw [c k hk]; by_cases q : k % 8 < 2; rw [if_pos ⟨by omega, q⟩, if_pos q]; rw [if_neg (fun z => q z.2), if_neg q]⟩
    · intro n z hn ⟨f5, f6, e, h, h6⟩
      subst e
      unfold fm_rsB
      rw [rl_c (show n < 100000 by omega), (ib_8 hn).1, (ib_8 hn).2.1]
      generalize sx_sI (sx_sI m 1 f1) 2 f2 = M
      refine ⟨upd f5 n 2, upd (upd f6 (8 * n) 1) (8 * n + 1) 1, ?_, fun k hk => ?_, fun k hk => ?_⟩
      · have e5 : sx_I (sx_sI (sx_sI M 5 f5) 6 f6) 5 = f5 := rfl
        have e6 : sx_I (sx_sI (sx_sI M 5 f5) 6 f6) 6 = f6 := rfl
        rw [e5, e6, sI_sw M 5 6 (by decide) f5 f6 (upd f5 n 2), rl_sI2]
      · rw [rg_u]
        by_cases c : k = n
        · rw [if_pos c]
        · rw [if_neg c]; exact h k (by omega)
      · rw [rg_u, rg_u, h6 k hk]
        by_cases c1 : k = 8 * n + 1
        · rw [if_pos c1, if_pos (by omega)]
        · rw [if_neg c1]
          by_cases c2 : k = 8 * n
          · rw [if_pos c2, if_pos (by omega)]
          · rw [if_neg c2]
            by_cases c3 : k < 8 * n ∧ k % 8 < 2
            · rw [if_pos c3, if_pos (by omega)]
            · rw [if_neg c3, if_neg (by omega)]
    · generalize hM : sx_sI (sx_sI m 1 f1) 2 f2 = M
      have q5 : sx_I m 5 = sx_I M 5 := by rw [← hM]; rfl
      have q6 : sx_I m 6 = sx_I M 6 := by rw [← hM]; rfl
      rw [q5, q6]
      exact (rl_sI1 M 5).trans (rl_sI1 (sx_sI M 5 (sx_I M 5)) 6)
  obtain ⟨f5, f6, e2, h5, h6⟩ := B
  have C : (fun z : sx_M => ∃ g, z = sx_sL (sx_sI (sx_sI (sx_sI (sx_sI m 1 f1) 2 f2) 5 f5) 6 f6) 23 g ∧ ∀ k, k < 8 → g k = 0) (it_up fm_rsC 8 0 (sx_sI (sx_sI (sx_sI (sx_sI m 1 f1) 2 f2) 5 f5) 6 f6)) := by
    refine it_inv (P := fun n (z : sx_M) => ∃ g, z = sx_sL (sx_sI (sx_sI (sx_sI (sx_sI m 1 f1) 2 f2) 5 f5) 6 f6) 23 g ∧ ∀ k, k < n → g k = 0) (n := 8) ?_ 8 0 _ (by omega) ⟨_, rl_sL1 _ 23, fun k hk => absurd hk (by omega)⟩
    intro n z hn ⟨g, e, h⟩
    subst e
    unfold fm_rsC
    rw [rl_c (show n < 100000 by omega), rl_ss]
    refine ⟨_, rfl, fun k hk => ?_⟩
    rw [rg_uL]
    by_cases c : k = n
    · rw [if_pos c]
    · rw [if_neg c]; exact h k (by omega)
  obtain ⟨g, e3, hg⟩ := C
  unfold fm_resets
  rw [e1, e2, e3]
  generalize hX : fm_rsS (sx_sL (sx_sI (sx_sI (sx_sI (sx_sI m 1 f1) 2 f2) 5 f5) 6 f6) 23 g) = X
  have hh : rl_h 0 X := by rw [← hX]; exact ⟨rfl, by decide, hs⟩
  obtain ⟨c1, c2, c3, c4, c5, c6, c7⟩ := mb_clears (p := 0) hh
  generalize hY : fm_clears X = Y at *
  have D : (fun z : sx_M => ∃ q, z = sx_sL Y 22 q ∧ ∀ k, k < 12 → q k = 0) (it_up fm_rsD 12 0 Y) := by
    refine it_inv (P := fun n (z : sx_M) => ∃ q, z = sx_sL Y 22 q ∧ ∀ k, k < n → q k = 0) (n := 12) ?_ 12 0 _ (by omega) ⟨_, rl_sL1 _ 22, fun k hk => absurd hk (by omega)⟩
    intro n z hn ⟨q, e, h⟩
    subst e
    unfold fm_rsD
    rw [rl_c (show n < 100000 by omega), rl_ss]
    refine ⟨_, rfl, fun k hk => ?_⟩
    rw [rg_uL]
    by_cases c : k = n
    · rw [if_pos c]
    · rw [if_neg c]; exact h k (by omega)
  obtain ⟨q, e4, hq⟩ := D
  rw [e4]
  have cI : ∀ i, i ≠ 26 → sx_I Y i = sx_I X i := fun i hi => c1.2.2.2.1 i hi
  refine ⟨fun k hk => ?_, fun k hk => ?_, fun k hk => ?_, fun k hk => ?_, ?_, ?_, ?_, ?_, ?_, c7, fun k hk => ?_, fun k hk => ?_, ?_, ⟨fun i a b => ?_, fun i a => ?_⟩⟩
  · show sx_I Y 1 k = 0 ∧ sx_I Y 2 k = 1
    rw [cI 1 (by decide), cI 2 (by decide), ← hX]; exact h1 k hk
  · show sx_I Y 5 k = 2
    rw [cI 5 (by decide), ← hX]; exact h5 k hk
  · show sx_I Y 6 k = _
    rw [cI 6 (by decide), ← hX]; exact h6 k hk
  · show sx_L Y 23 k = 0
    rw [c6 23 (by decide) (by decide) (by decide), ← hX]; exact hg k hk
  · show sx_i Y 3 = 0
    rw [c5 3 (by decide) (by decide), ← hX]; rfl
  · show sx_i Y 7 = 0
    rw [c5 7 (by decide) (by decide), ← hX]; rfl
  · show sx_i Y 13 = 0
    rw [c5 13 (by decide) (by decide), ← hX]; rfl
  · show sx_i Y 14 = -2
    rw [c5 14 (by decide) (by decide), ← hX]; rfl
  · show sx_i Y 15 = 0
    rw [c5 15 (by decide) (by decide), ← hX]; rfl
  · have := c2 k hk
    rw [show 8 * 0 + k = k by omega] at this
    exact this
  · show q k = 0
    exact hq k hk
  · show sx_I Y 4 = _
    rw [cI 4 (by decide), ← hX]; rfl
  · show sx_I Y i = _
    rw [cI i (by omega), ← hX]
    show (if i = 6 then _ else if i = 5 then _ else if i = 2 then _ else if i = 1 then _ else sx_I m i) = _
    rw [if_neg (by omega), if_neg (by omega), if_neg (by omega), if_neg (by omega)]
  · show (if i = 22 then _ else sx_L Y i) = _
    rw [if_neg (by omega), c6 i (by omega) (by omega) (by omega), ← hX]
    show (if i = 23 then _ else sx_L m i) = _
    rw [if_neg (by omega)]
