/-! the beginning of a run, the real run, tried runs. Own work. -/
set_option maxRecDepth 100000
theorem vp_nar0 : vp_nar .boolean 0 = 0 := rfl
/-- a run of the judge begins -/
theorem ub_begin (u : sx_M) : (∀ k, k < 8 → sx_L (fr_begin u) 0 k = 0 ∧ sx_L (fr_begin u) 1 k = 1 ∧ sx_I (fr_begin u) 2 k = 0 ∧ sx_L (fr_begin u) 3 k = 0 ∧ sx_D (fr_begin u) 14 k = FP.dconst0 ∧ sx_D (fr_begin u) 16 k = FP.dconst0) ∧ (∀ k, k < 12 → sx_L (fr_begin u) 7 k = 0) ∧ sx_i (fr_begin u) 4 = 0 ∧ sx_i (fr_begin u) 5 = -1 ∧ sx_i (fr_begin u) 9 = sx_i u 9 ∧ sx_i (fr_begin u) 13 = sx_i u 13 ∧ sx_l (fr_begin u) = sx_l u ∧ sx_d (fr_begin u) = sx_d u ∧ sx_I (fr_begin u) 8 = sx_I u 8 ∧ sx_L (fr_begin u) 12 = sx_L u 12 := by
  have A : (fun z : sx_M => (∀ k, k < 8 → sx_L z 0 k = 0 ∧ sx_L z 1 k = 1 ∧ sx_I z 2 k = 0 ∧ sx_L z 3 k = 0 ∧ sx_D z 14 k = FP.dconst0 ∧ sx_D z 16 k = FP.dconst0) ∧ sx_i z = sx_i u ∧ sx_l z = sx_l u ∧ sx_d z = sx_d u ∧ sx_I z 8 = sx_I u 8 ∧ sx_L z 12 = sx_L u 12) (it_up fr_bgA 8 0 u) := by
    refine it_inv (P := fun n (z : sx_M) => (∀ k, k < n → sx_L z 0 k = 0 ∧ sx_L z 1 k = 1 ∧ sx_I z 2 k = 0 ∧ sx_L z 3 k = 0 ∧ sx_D z 14 k = FP.dconst0 ∧ sx_D z 16 k = FP.dconst0) ∧ sx_i z = sx_i u ∧ sx_l z = sx_l u ∧ sx_d z = sx_d u ∧ sx_I z 8 = sx_I u 8 ∧ sx_L z 12 = sx_L u 12) (n := 8) ?_ 8 0 u (by omega) ⟨fun k hk => absurd hk (by omega), rfl, rfl, rfl, rfl, rfl⟩
    intro n z hn ⟨h1, h2, h3, h4, h5, h6⟩
    refine ⟨fun k hk => ?_, h2, h3, h4, h5, h6⟩
    unfold fr_bgA
    rw [rl_c (show n < 100000 by omega)]
    simp only [rg_LL, rg_LI, rg_LD, rg_II, rg_IL, rg_ID, rg_DD, rg_DI, rg_DL, rg_uL, rg_u, rg_uD]
    by_cases e : k = n
    · subst e
      simp [rg_uL, rg_u, rg_uD, vp_nar0]
    · simpa [rg_uL, rg_u, rg_uD, e] using h1 k (by omega)
  have B : (fun z : sx_M => ((∀ k, k < 8 → sx_L z 0 k = 0 ∧ sx_L z 1 k = 1 ∧ sx_I z 2 k = 0 ∧ sx_L z 3 k = 0 ∧ sx_D z 14 k = FP.dconst0 ∧ sx_D z 16 k = FP.dconst0) ∧ sx_i z = sx_i u ∧ sx_l z = sx_l u ∧ sx_d z = sx_d u ∧ sx_I z 8 = sx_I u 8 ∧ sx_L z 12 = sx_L u 12) ∧ ∀ k, k < 12 → sx_L z 7 k = 0) (it_up fr_bgB 12 0 (it_up fr_bgA 8 0 u)) := by
    refine it_inv (P := fun n (z : sx_M) => ((∀ k, k < 8 → sx_L z 0 k = 0 ∧ sx_L z 1 k = 1 ∧ sx_I z 2 k = 0 ∧ sx_L z 3 k = 0 ∧ sx_D z 14 k = FP.dconst0 ∧ sx_D z 16 k = FP.dconst0) ∧ sx_i z = sx_i u ∧ sx_l z = sx_l u ∧ sx_d z = sx_d u ∧ sx_I z 8 = sx_I u 8 ∧ sx_L z 12 = sx_L u 12) ∧ ∀ k, k < n → sx_L z 7 k = 0) (n := 12) ?_ 12 0 _ (by omega) ⟨A, fun k hk => absurd hk (by omega)⟩
    intro n z hn ⟨h1, h2⟩
    refine ⟨h1, fun k hk => ?_⟩
    unfold fr_bgB
    rw [rl_c (show n < 100000 by omega)]
    simp only [rg_LL, rg_LD]
    by_cases e : k = n
    · subst e; simp [rg_uL]
    · simpa [rg_uL, e] using h2 k (by omega)
  obtain ⟨⟨b1, b2, b3, b4, b5, b6⟩, b7⟩ := B
  unfold fr_begin
  generalize it_up fr_bgB 12 0 (it_up fr_bgA 8 0 u) = z at *
  refine ⟨b1, b7, rfl, rfl, ?_, ?_, b3, b4, b5, b6⟩
  · show sx_i z 9 = _
    rw [b2]
  · show sx_i z 13 = _
    rw [b2]
/-- what the model's clearing does -/
theorem mb_clears {b p : Nat} {m : sx_M} (hh : rl_h b m) : rl_f b p m (fm_clears m) ∧ (∀ k, k < 8 → sx_L (fm_clears m) 19 (8 * b + k) = 0 ∧ sx_L (fm_clears m) 20 (8 * b + k) = 1 ∧ sx_I (fm_clears m) 26 (8 * b + k) = 0 ∧ sx_L (fm_clears m) 21 (8 * b + k) = 0) ∧ sx_i (fm_clears m) 27 = 0 ∧ sx_i (fm_clears m) 28 = 0 ∧ (∀ i, i ≠ 27 → i ≠ 28 → sx_i (fm_clears m) i = sx_i m i) ∧ (∀ i, i ≠ 19 → i ≠ 20 → i ≠ 21 → sx_L (fm_clears m) i = sx_L m i) ∧ rl_h b (fm_clears m) := by
  have A : (fun z : sx_M => rl_f b p m z ∧ (∀ k, k < 8 → sx_L z 19 (8 * b + k) = 0 ∧ sx_L z 20 (8 * b + k) = 1 ∧ sx_I z 26 (8 * b + k) = 0 ∧ sx_L z 21 (8 * b + k) = 0) ∧ sx_i z = sx_i m ∧ (∀ i, i ≠ 19 → i ≠ 20 → i ≠ 21 → sx_L z i = sx_L m i) ∧ rl_h b z) (it_up fm_clrB 8 0 m) := by
    refine it_inv (P := fun n (z : sx_M) => rl_f b p m z ∧ (∀ k, k < n → sx_L z 19 (8 * b + k) = 0 ∧ sx_L z 20 (8 * b + k) = 1 ∧ sx_I z 26 (8 * b + k) = 0 ∧ sx_L z 21 (8 * b + k) = 0) ∧ sx_i z = sx_i m ∧ (∀ i, i ≠ 19 → i ≠ 20 → i ≠ 21 → sx_L z i = sx_L m i) ∧ rl_h b z) (n := 8) ?_ 8 0 m (by omega) ⟨rl_f.refl _ _ _, fun k hk => absurd hk (by omega), rfl, fun _ _ _ _ => rfl, hh⟩
    intro n z hn ⟨h1, h2, h3, h4, h5⟩
    unfold fm_clrB
    rw [rl_ix h5 hn]
    refine ⟨h1.tr ⟨fun _ _ _ _ _ _ => rfl, fun _ _ => rfl, rfl, fun i hi => ?_, fun k hk => ?_, fun i hi => ?_, fun i k hi hk => ?_, fun _ _ => rfl, fun _ _ => ⟨rfl, rfl⟩, rfl⟩, fun k hk => ?_, h3, fun i i1 i2 i3 => ?_, ⟨h5.1, h5.2.1, fun i hi => ?_⟩⟩
    · simp only [rg_II, rg_IL]
      rw [if_neg hi]
    · simp only [rg_II, rg_IL]
      simp [rg_u, show ¬ (k = 8 * b + n) by omega]
    · simp only [rg_LL, rg_LI]
      rw [if_neg (by omega), if_neg (by omega), if_neg (by omega)]
    · simp only [rg_LL, rg_LI]
      rcases hi with rfl | rfl | rfl | rfl <;> simp [rg_uL, show ¬ (k = 8 * b + n) by omega]
    · simp only [rg_LL, rg_LI, rg_II, rg_IL]
      by_cases e : k = n
      · subst e
        simp [rg_uL, rg_u, vp_nar0]
      · simpa [rg_uL, rg_u, e, show ¬ (8 * b + k = 8 * b + n) by omega] using h2 k (by omega)
    · simp only [rg_LL, rg_LI]
      rw [if_neg i3, if_neg i2, if_neg i1]
      exact h4 i i1 i2 i3
    · simp only [rg_II, rg_IL]
      by_cases e : i = 8 * b + n
      · exact Or.inl (by simp [rg_u, e, vp_nar0])
      · simpa [rg_u, e] using h5.2.2 i hi
  obtain ⟨h1, h2, h3, h4, h5⟩ := A
  unfold fm_clears
  generalize it_up fm_clrB 8 0 m = z at *
  refine ⟨h1.tr ⟨fun i i1 i2 _ _ _ => ?_, fun _ _ => rfl, rfl, fun _ _ => rfl, fun _ _ => rfl, fun _ _ => rfl, fun _ _ _ _ => rfl, fun _ _ => rfl, fun _ _ => ⟨rfl, rfl⟩, rfl⟩, h2, rfl, rfl, fun i i1 i2 => ?_, h4, h5⟩
  · simp only [rg_ii]
    rw [if_neg i2, if_neg i1]
  · simp only [rg_ii]
    rw [if_neg i2, if_neg i1, h3]
/-- the model begins a run -/
theorem mb_rn0 {b p : Nat} {m : sx_M} (hh : rl_h b m) : ∃ f41, rl_f b p (sx_sL m 41 f41) (fm_rn0 m) ∧ (∀ k, k < 8 → f41 k = sx_L m 23 (8 * b + k)) ∧ (∀ k, k < 8 → sx_L (fm_rn0 m) 19 (8 * b + k) = 0 ∧ sx_L (fm_rn0 m) 20 (8 * b + k) = 1 ∧ sx_I (fm_rn0 m) 26 (8 * b + k) = 0 ∧ sx_L (fm_rn0 m) 21 (8 * b + k) = 0) ∧ (∀ k, k < 12 → sx_L (fm_rn0 m) 22 (12 * b + k) = 0) ∧ sx_i (fm_rn0 m) 27 = 0 ∧ sx_i (fm_rn0 m) 28 = 0 ∧ sx_i (fm_rn0 m) 31 = 0 ∧ sx_i (fm_rn0 m) 32 = 0 ∧ sx_L (fm_rn0 m) 23 = sx_L m 23 ∧ sx_L (fm_rn0 m) 24 = sx_L m 24 ∧ sx_L (fm_rn0 m) 25 = sx_L m 25 ∧ sx_L (fm_rn0 m) 41 = f41 ∧ rl_h b (fm_rn0 m) := by
  have A : ∃ f41, it_up fm_rnA 8 0 m = sx_sL m 41 f41 ∧ ∀ k, k < 8 → f41 k = sx_L m 23 (8 * b + k) := by
    refine it_inv (P := fun n (z : sx_M) => ∃ f, z = sx_sL m 41 f ∧ ∀ k, k < n → f k = sx_L m 23 (8 * b + k)) (n := 8) ?_ 8 0 m (by omega) ⟨sx_L m 41, ?_, fun k hk => absurd hk (by omega)⟩
    · intro n z hn ⟨f, e, h⟩
      subst e
      unfold fm_rnA
      rw [show sx_i (sx_sL m 41 f) 16 = sx_i m 16 from rfl, rl_ix hh hn, rl_c (show n < 100000 by omega), rl_ss]
      refine ⟨_, rfl, fun k hk => ?_⟩
      rw [rg_uL]
      by_cases e : k = n
      · rw [if_pos e, e]; rfl
      · rw [if_neg e]; exact h k (by omega)
    · have : va_up m.2.2.2.2.1 41 (sx_L m 41) = m.2.2.2.2.1 := by
        funext i
        unfold va_up
        by_cases h : i = 41
        · rw [if_pos h, h]
        · rw [if_neg h]
      unfold sx_sL
      rw [this]
  obtain ⟨f41, e1, h41⟩ := A
  unfold fm_rn0
  rw [e1]
  obtain ⟨c1, c2, c3, c4, c5, c6, c7⟩ := mb_clears (b := b) (p := p) (m := sx_sL m 41 f41) hh
  generalize fm_clears (sx_sL m 41 f41) = x at *
  have B : (fun z : sx_M => rl_f b p x z ∧ (∀ k, k < 12 → sx_L z 22 (12 * b + k) = 0) ∧ sx_i z = sx_i x ∧ sx_I z = sx_I x ∧ ∀ i, i ≠ 22 → sx_L z i = sx_L x i) (it_up fm_rnR 12 0 x) := by
    refine it_inv (P := fun n (z : sx_M) => rl_f b p x z ∧ (∀ k, k < n → sx_L z 22 (12 * b + k) = 0) ∧ sx_i z = sx_i x ∧ sx_I z = sx_I x ∧ ∀ i, i ≠ 22 → sx_L z i = sx_L x i) (n := 12) ?_ 12 0 x (by omega) ⟨rl_f.refl _ _ _, fun k hk => absurd hk (by omega), rfl, rfl, fun _ _ => rfl⟩
    intro n z hn ⟨h1, h2, h3, h4, h5⟩
    unfold fm_rnR
    rw [rl_ix12 (b := b) (j := n) (m := z) ⟨by rw [h3]; exact c7.1, c7.2.1, fun i hi => by rw [h4]; exact c7.2.2 i hi⟩ hn]
    refine ⟨h1.tr ⟨fun _ _ _ _ _ _ => rfl, fun _ _ => rfl, rfl, fun _ _ => rfl, fun _ _ => rfl, fun i hi => ?_, fun i k hi hk => ?_, fun k hk => ?_, fun _ _ => ⟨rfl, rfl⟩, rfl⟩, fun k hk => ?_, h3, h4, fun i hi => ?_⟩
    · rw [rg_LL, if_neg (by omega)]
    · rw [rg_LL, if_neg (by omega)]
    · rw [rg_LL, if_pos rfl, rg_uL, if_neg (by omega)]
    · rw [rg_LL, if_pos rfl, rg_uL]
      by_cases e : k = n
      · rw [if_pos (by omega)]
      · rw [if_neg (by omega)]; exact h2 k (by omega)
    · rw [rg_LL, if_neg hi]; exact h5 i hi
  obtain ⟨d1, d2, d3, d4, d5⟩ := B
  generalize it_up fm_rnR 12 0 x = y at *
  refine ⟨f41, (c1.tr d1).tr ⟨fun i _ _ _ i1 i2 => ?_, fun _ _ => rfl, rfl, fun _ _ => rfl, fun _ _ => rfl, fun _ _ => rfl, fun _ _ _ _ => rfl, fun _ _ => rfl, fun _ _ => ⟨rfl, rfl⟩, rfl⟩, h41, fun k hk => ?_, d2, ?_, ?_, rfl, rfl, ?_, ?_, ?_, ?_, ?_⟩
  · unfold fm_rnS
    simp only [rg_ii]
    rw [if_neg i2, if_neg i1]
  · show sx_L y 19 _ = 0 ∧ sx_L y 20 _ = 1 ∧ sx_I y 26 _ = 0 ∧ sx_L y 21 _ = 0
    rw [d5 19 (by decide), d5 20 (by decide), d5 21 (by decide), d4]
    exact c2 k hk
  · show sx_i y 27 = 0
    rw [d3]; exact c3
  · show sx_i y 28 = 0
    rw [d3]; exact c4
  · show sx_L y 23 = _
    rw [d5 23 (by decide), c6 23 (by decide) (by decide) (by decide)]; rfl
  · show sx_L y 24 = _
    rw [d5 24 (by decide), c6 24 (by decide) (by decide) (by decide)]; rfl
  · show sx_L y 25 = _
    rw [d5 25 (by decide), c6 25 (by decide) (by decide) (by decide)]; rfl
  · show sx_L y 41 = _
    rw [d5 41 (by decide), c6 41 (by decide) (by decide) (by decide)]; rfl
  · refine ⟨?_, c7.2.1, fun i hi => ?_⟩
    · show sx_i y 16 = _
      rw [d3]; exact c7.1
    · show sx_I y 26 i = 0 ∨ sx_I y 26 i = 1
      rw [d4]; exact c7.2.2 i hi
/-- what must hold ahead of a run -/
def rb (b p : Nat) (w u m : sx_M) : Prop := rl_w w m ∧ rl_h b m ∧ rl_b u m ∧ rl_n (sx_l u 10) (sx_l u 11) ∧ vp_in (sx_i u 9) 13 ∧ (∀ k, k < 12 → (sx_I u 8 k).toInt.natAbs ≤ 1000000) ∧ (∀ k, k < 8 → sx_L u 12 k = sx_L m 23 (8 * b + k)) ∧ sx_l u 10 = sx_L m 24 (4 * b + p) ∧ sx_l u 11 = sx_L m 25 (4 * b + p)
theorem rb_begin {b p : Nat} {w u m : sx_M} (h : rb b p w u m) : ∃ f41, rl b p (sx_i u 13) w (fr_begin u) (fm_rn0 m) ∧ rl_f b p (sx_sL m 41 f41) (fm_rn0 m) ∧ (∀ k, k < 8 → sx_L (fm_rn0 m) 41 k = sx_L m 23 (8 * b + k)) ∧ sx_i (fm_rn0 m) 32 = 0 := by
  obtain ⟨hw, hh, hb, hn, h13, hbb, ha, hc1, hc2⟩ := h
  obtain ⟨f41, f, e41, m1, m2, m3, m4, m5, m6, m7, m8, m9, m10, m11⟩ := mb_rn0 (p := p) hh
  obtain ⟨u1, u2, u3, u4, u5, u6, u7, u8, u9, u10⟩ := ub_begin u
  refine ⟨f41, ⟨?_, m11, ⟨fun k hk => ?_, fun k hk => ?_, fun k hk => ?_, fun k hk => ?_, fun k hk => ?_⟩, ⟨fun k hk => ?_, fun k hk => ?_, ?_, ?_, ?_⟩, ⟨?_, ?_, ?_⟩, ⟨?_, ?_⟩, ⟨fun k hk => ?_, ?_, ?_, ?_⟩⟩, f, fun k hk => ?_, m6⟩
  · unfold rl_w
    rw [f.2.2.2.1 1 (by decide), f.2.2.2.1 2 (by decide), f.2.2.2.1 5 (by decide), f.2.2.2.1 6 (by decide)]
    exact hw
  · rw [(u1 k hk).1, (m1 k hk).1]
  · rw [(u1 k hk).2.1, (m1 k hk).2.1]
  · rw [(u1 k hk).2.2.1, (m1 k hk).2.2.1]
  · rw [(u1 k hk).2.2.2.1, (m1 k hk).2.2.2]
  · rw [u2 k hk, m2 k hk]
  · rw [(u1 k hk).1, (u1 k hk).2.1]
    exact ⟨Nat.zero_le _, by decide, by decide, by decide⟩
  · rw [(u1 k hk).2.2.2.1]; exact Nat.zero_le _
  · rw [u7]; exact hn
  · rw [u5]; exact h13
  · rw [u9]; exact hbb
  · rw [u3, m4]
  · exact Or.inl m4
  · exact Or.inl ⟨m3, u4⟩
  · rw [u5, hb.1, f.1 17 (by decide) (by decide) (by decide) (by decide) (by decide)]; rfl
  · rw [u5, u9, f.2.2.2.1 18 (by decide)]; exact hb.2
  · rw [u10, m7]; exact ha k hk
  · rw [u7, m8]; exact hc1
  · rw [u7, m9]; exact hc2
  · rw [u6, m5, Int32.add_zero]
  · rw [m10]; exact e41 k hk
