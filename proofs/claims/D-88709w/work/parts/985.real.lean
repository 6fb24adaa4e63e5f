/-! the real run, years. Own work. -/
set_option maxRecDepth 100000
/-- what holds between the judge and the model between two calls (programs and tapes apart) -/
def iv (c : sx_C) (m : sx_M) : Prop := rl_w c.1 m ∧ (∃ nl, nl ≤ 12 ∧ ln nl c.1 m) ∧ sx_i c.1 7 = sx_i m 7 ∧ vp_in (sx_i m 7) 5 ∧ (∀ k, k < 8 → sx_L c.1 8 k = sx_L m 23 k) ∧ sx_i c.1 9 = sx_i m 13 ∧ sx_i c.1 15 = sx_i m 14 ∧ sx_i c.1 24 = sx_i m 15 ∧ rl_h 0 m ∧ rl_s 0 (sx_R c 0) m ∧ ub (sx_R c 0) ∧ ub (sx_R c 1) ∧ ub (sx_R c 2)
/-- what a real run leaves of the model -/
def rf (p : Nat) (m x : sx_M) : Prop := (∀ i, i ≠ 18 → i ≠ 26 → sx_I x i = sx_I m i) ∧ (∀ i, i < 19 ∨ 25 < i → i ≠ 41 → sx_L x i = sx_L m i) ∧ (∀ k, k ≠ p → sx_L x 24 k = sx_L m 24 k ∧ sx_L x 25 k = sx_L m 25 k) ∧ sx_i x 7 = sx_i m 7 ∧ sx_i x 3 = sx_i m 3
theorem rf_P {A : fp_A} {n p q : Nat} {m x : sx_M} (h : rf p m x) (hA : rp A n q m) : rp A n q x := by
  unfold rp
  rw [h.1 8 (by decide) (by decide), h.1 9 (by decide) (by decide), h.1 10 (by decide) (by decide), h.1 11 (by decide) (by decide), h.1 12 (by decide) (by decide)]
  exact hA
theorem rr_m (m : sx_M) {n : Nat} (hn : n ≤ 12) : ∃ f, fm_rr0 m n = sx_sI (sx_si (sx_si m 16 0) 17 (sx_i m 3)) 18 f ∧ ∀ k, k < n → f k = sx_I m 4 k := by
  unfold fm_rr0 fm_rrS
  refine it_inv (P := fun j (z : sx_M) => ∃ f, z = sx_sI (sx_si (sx_si m 16 0) 17 (sx_i m 3)) 18 f ∧ ∀ k, k < j → f k = sx_I m 4 k) (n := n) ?_ n 0 _ (by omega) ⟨sx_I m 18, rl_sI1 (sx_si (sx_si m 16 0) 17 (sx_i m 3)) 18, fun k hk => absurd hk (by omega)⟩
  intro j z hj ⟨f, e, h⟩
  subst e
  unfold fm_rrB
  rw [rl_c (show j < 100000 by omega), rl_sI2]
  refine ⟨_, rfl, fun k hk => ?_⟩
  rw [rg_u]
  by_cases e : k = j
  · rw [if_pos e, e]; rfl
  · rw [if_neg e]; exact h k (by omega)
theorem rn_a (w u : sx_M) : ∃ g, it_up (fc_rnA w) 8 0 u = sx_sL u 12 g ∧ ∀ k, k < 8 → g k = sx_L w 8 k := by
  refine it_inv (P := fun j (z : sx_M) => ∃ g, z = sx_sL u 12 g ∧ ∀ k, k < j → g k = sx_L w 8 k) (n := 8) ?_ 8 0 u (by omega) ⟨sx_L u 12, rl_sL1 u 12, fun k hk => absurd hk (by omega)⟩
  intro j z hj ⟨g, e, h⟩
  subst e
  unfold fc_rnA
  rw [rl_c (show j < 100000 by omega), rl_ss]
  refine ⟨_, rfl, fun k hk => ?_⟩
  rw [rg_uL]
  by_cases e : k = j
  · rw [if_pos e, e]
  · rw [if_neg e]; exact h k (by omega)
theorem rn_b (u w : sx_M) : ∃ g, it_up (fc_rnB u) 8 0 w = sx_sL w 8 g ∧ ∀ k, k < 8 → g k = sx_L u 12 k := by
  refine it_inv (P := fun j (z : sx_M) => ∃ g, z = sx_sL w 8 g ∧ ∀ k, k < j → g k = sx_L u 12 k) (n := 8) ?_ 8 0 w (by omega) ⟨sx_L w 8, rl_sL1 w 8, fun k hk => absurd hk (by omega)⟩
  intro j z hj ⟨g, e, h⟩
  subst e
  unfold fc_rnB
  rw [rl_c (show j < 100000 by omega), rl_ss]
  refine ⟨_, rfl, fun k hk => ?_⟩
  rw [rg_uL]
  by_cases e : k = j
  · rw [if_pos e, e]
  · rw [if_neg e]; exact h k (by omega)
theorem nI_neg2 {i : Nat} (h : i < 2 ^ 31) : ¬ nI i = -2 := by
  intro e
  have := congrArg Int32.toInt e
  rw [nI_toInt h] at this
  have : (-2 : Int32).toInt = -2 := rfl
  omega
theorem re_run {A : fp_A} {n p nl : Nat} {c : sx_C} {m : sx_M} {D : pj_H} {pi ai : Nat} (hp : p < 4) (h : iv c m) (hnl : nl ≤ 12) (hl : ln nl c.1 m) (hA : rp A n p m) (hc : rl_n (sx_L m 24 p) (sx_L m 25 p)) :
    fa_runA A n 0 (fc_runZ c nl (sx_L m 24 p) (sx_L m 25 p)) ∧ rp A n p (fm_rr0 m nl) ∧ sx_i (fm_rr0 m nl) 16 = 0 ∧ rn_inv A n 0 p (sx_i c.1 9) 0 (fm_rn0 (fm_rr0 m nl)) ∧
    (fc_runR c D pi ai n (sx_L m 25 p) (fa_runL A n 0 (fc_runZ c nl (sx_L m 24 p) (sx_L m 25 p)))).1 = fm_runA (fm_runsReal m (nI p) nl).1 (nI p) (fm_runsReal m (nI p) nl).2 ∧
    iv (fc_runR c D pi ai n (sx_L m 25 p) (fa_runL A n 0 (fc_runZ c nl (sx_L m 24 p) (sx_L m 25 p)))).2.1 (fm_runsReal m (nI p) nl).2 ∧
    (fc_runR c D pi ai n (sx_L m 25 p) (fa_runL A n 0 (fc_runZ c nl (sx_L m 24 p) (sx_L m 25 p)))).2.1.2.2 = c.2.2 ∧
    rf p m (fm_runsReal m (nI p) nl).2 ∧ rl_n (sx_L (fm_runsReal m (nI p) nl).2 24 p) (sx_L (fm_runsReal m (nI p) nl).2 25 p) ∧
    (((fm_runsReal m (nI p) nl).1 = -2 ∧ (fc_runR c D pi ai n (sx_L m 25 p) (fa_runL A n 0 (fc_runZ c nl (sx_L m 24 p) (sx_L m 25 p)))).1 = nI n ∧ (fc_runR c D pi ai n (sx_L m 25 p) (fa_runL A n 0 (fc_runZ c nl (sx_L m 24 p) (sx_L m 25 p)))).2.2 = (D.set pi (.inr (4, [.ref (ai + 98), .int (nI n), .long (sx_L (fm_runsReal m (nI p) nl).2 24 p), .long (sx_L m 25 p)]))).set pi (.inr (4, [.ref (ai + 98), .int (nI n), .long (sx_L (fm_runsReal m (nI p) nl).2 24 p), .long (sx_L (fm_runsReal m (nI p) nl).2 25 p)]))) ∨
     (¬ (fm_runsReal m (nI p) nl).1 = -2 ∧ (fc_runR c D pi ai n (sx_L m 25 p) (fa_runL A n 0 (fc_runZ c nl (sx_L m 24 p) (sx_L m 25 p)))).1 < 0 ∧ (fc_runR c D pi ai n (sx_L m 25 p) (fa_runL A n 0 (fc_runZ c nl (sx_L m 24 p) (sx_L m 25 p)))).2.2 = D ∧ sx_L (fm_runsReal m (nI p) nl).2 24 p = sx_L m 24 p ∧ sx_L (fm_runsReal m (nI p) nl).2 25 p = sx_L m 25 p)) := by
  obtain ⟨hw, _, h7, h75, h8, h9, h15, h24, hh, hs, u0, u1, u2⟩ := h
  obtain ⟨fm, em, hfm⟩ := rr_m m hnl
  obtain ⟨fb, eb, hfb, hfb2⟩ := bl_u (sx_R c 0) (sx_I c.1 2) hnl
  obtain ⟨ga, ea, hga⟩ := rn_a c.1 (fr_bill (sx_R c 0) (sx_I c.1 2) nl)
  generalize hU : sx_sl (sx_sl (sx_si (sx_sL (fr_bill (sx_R c 0) (sx_I c.1 2) nl) 12 ga) 13 (sx_i c.1 9)) 10 (sx_L m 24 p)) 11 (sx_L m 25 p) = U
  have EZ : fc_runZ c nl (sx_L m 24 p) (sx_L m 25 p) = (c.1, fr_begin U) := by
    unfold fc_runZ fc_rnU
    rw [ea, hU]
  have U13 : sx_i U 13 = sx_i c.1 9 := by rw [← hU]; rfl
  have hrb : rb 0 p c.1 U (fm_rr0 m nl) := by
    rw [em, ← hU, eb]
    refine ⟨hw, ⟨rfl, by decide, hh.2.2⟩, ⟨by show nI nl = sx_i m 3; rw [hl.2.1], fun k hk => ?_⟩, hc, vp_in_nI (by omega) (by decide), fun k hk => ?_, fun k hk => ?_, ?_, ?_⟩
    · have hk : k < (nI nl).toNatClampNeg := hk
      rw [rl_c (show nl < 100000 by omega)] at hk
      show fb k = fm k
      rw [hfb k hk, hfm k hk]; exact hl.2.2.1 k hk
    · show (fb k).toInt.natAbs ≤ _
      by_cases e : k < nl
      · rw [hfb k e]; exact hl.2.2.2 k hk
      · rw [hfb2 k (by omega)]; exact u0 k hk
    · show ga k = sx_L m 23 (8 * 0 + k)
      rw [hga k hk, h8 k hk, show 8 * 0 + k = k by omega]
    · show sx_L m 24 p = sx_L m 24 (4 * 0 + p)
      rw [show 4 * 0 + p = p by omega]
    · show sx_L m 25 p = sx_L m 25 (4 * 0 + p)
      rw [show 4 * 0 + p = p by omega]
  have hrp : rp A n p (fm_rr0 m nl) := by rw [em]; exact hA
  have h16 : sx_i (fm_rr0 m nl) 16 = 0 := by rw [em]; rfl
  obtain ⟨r1, r2, g, ⟨gw, hgw⟩, hx, hcase⟩ := rn_run hp hrb hrp
  rw [U13] at r2
  rw [EZ]
  refine ⟨r1, hrp, h16, r2, ?_⟩
  have n20 := hA.1
  unfold fm_runsReal
  generalize hR : fa_runL A n 0 (c.1, fr_begin U) = R at *
  generalize hM : fm_runs (fm_rr0 m nl) (nI p) = M at *
  have RF : rf p m (fm_rrE M.1 M.2) := by
    refine ⟨fun i i1 i2 => ?_, fun i i1 i2 => ?_, fun k hk => ?_, ?_, ?_⟩
    · show sx_I M.2 i = _
      rw [g.I i2, em, rg_II, if_neg i1]; rfl
    · show sx_L M.2 i = _
      rw [g.L i1 i2, em]; rfl
    · have := g.C (k := k) (by omega)
      show sx_L M.2 24 k = _ ∧ sx_L M.2 25 k = _
      rw [this.1, this.2, em]; exact ⟨rfl, rfl⟩
    · show sx_i M.2 7 = _
      rw [g.i (by decide) (by decide) (by decide) (by decide) (by decide), em]; rfl
    · show sx_i M.2 3 = _
      rw [g.i (by decide) (by decide) (by decide) (by decide) (by decide), em]; rfl
  have m13 : sx_i M.2 13 = sx_i m 13 := by rw [g.i (by decide) (by decide) (by decide) (by decide) (by decide), em]; rfl
  have m15 : sx_i M.2 15 = sx_i m 15 := by rw [g.i (by decide) (by decide) (by decide) (by decide) (by decide), em]; rfl
  have W1 : ∀ x, sx_I x = sx_I c.1 → rl_w x (fm_rrE M.1 M.2) := fun x hx => by
    unfold rl_w
    rw [hx]
    have := g.W (w := c.1) (by rw [em]; exact hw)
    exact this
  have LN : ∀ x, sx_I x = sx_I c.1 → sx_i x 3 = sx_i c.1 3 → ln nl x (fm_rrE M.1 M.2) := fun x hx hx3 => by
    unfold ln
    rw [hx, hx3, RF.1 4 (by decide) (by decide), RF.2.2.2.2]
    exact hl
  obtain ⟨x1, x2, x3, x4, x5, x6⟩ := hx
  have x3' : rl_s 0 R.2.2 (fm_rrE M.1 M.2) := x3
  have i8 : sx_I (fm_rrE M.1 M.2) 8 (nI p).toNatClampNeg = nI n := by
    rw [rl_c (show p < 100000 by omega), RF.1 8 (by decide) (by decide)]; exact hA.2.1
  rcases hcase with ⟨c1, c2, c3, c4⟩ | ⟨i, r, ci, c1, c2, c3, c4, c5, c6, c7, c8, c9⟩
  · obtain ⟨R1, R2, R3⟩ := R
    dsimp only at *
    subst c1
    have EA : fm_runA M.1 (nI p) (fm_rrE M.1 M.2) = nI n := by unfold fm_runA; rw [if_pos c2, i8]
    obtain ⟨gb, ebb, hgb⟩ := rn_b R3 (sx_si R2 15 (-2))
    have EW : fc_runW R2 R3 = sx_si (sx_sL (sx_si R2 15 (-2)) 8 gb) 9 (sx_i R3 13) := by unfold fc_runW; rw [ebb]
    obtain ⟨_, _, _, ⟨_, _, cn, _, cub⟩, _, _, ⟨a0, a1, a2, a3⟩⟩ := c3
    have hR2 : R2 = sx_sL c.1 14 gw := hgw
    have e24 : sx_l R3 10 = sx_L (fm_rrE M.1 M.2) 24 p := by rw [a1]; show sx_L M.2 24 (4 * 0 + p) = sx_L M.2 24 p; rw [show 4 * 0 + p = p by omega]
    have e25 : sx_l R3 11 = sx_L (fm_rrE M.1 M.2) 25 p := by rw [a2]; show sx_L M.2 25 (4 * 0 + p) = sx_L M.2 25 p; rw [show 4 * 0 + p = p by omega]
    refine ⟨?_, ⟨?_, ⟨nl, hnl, ?_⟩, ?_, ?_, ?_, ?_, ?_, ?_, ?_, ?_, ?_, ?_, ?_⟩, rfl, RF, ?_, Or.inl ⟨c2, rfl, ?_⟩⟩
    · show nI n = _
      rw [EA]
    · show rl_w (fc_runW R2 R3) _
      rw [EW]; exact W1 _ (by rw [hR2]; rfl)
    · show ln nl (fc_runW R2 R3) _
      rw [EW]; exact LN _ (by rw [hR2]; rfl) (by rw [hR2]; rfl)
    · show sx_i (fc_runW R2 R3) 7 = _
      rw [EW, RF.2.2.2.1, hR2]; exact h7
    · rw [RF.2.2.2.1]; exact h75
    · intro k hk
      show sx_L (fc_runW R2 R3) 8 k = sx_L M.2 23 k
      rw [EW]
      show gb k = _
      rw [hgb k hk, a0 k hk, show 8 * 0 + k = k by omega]
    · show sx_i (fc_runW R2 R3) 9 = sx_i M.2 13 + sx_i M.2 31
      rw [EW]
      show sx_i R3 13 = _
      rw [a3, U13, h9, m13]
    · show sx_i (fc_runW R2 R3) 15 = M.1
      rw [EW, c2]; rfl
    · show sx_i (fc_runW R2 R3) 24 = sx_i M.2 15
      rw [EW, m15, hR2]; exact h24
    · exact x2
    · exact x3
    · exact cub
    · exact u1
    · exact u2
    · rw [← e24, ← e25]; exact cn
    · show (D.set pi (.inr (4, [.ref (ai + 98), .int (nI n), .long (sx_l R3 10), .long (sx_L m 25 p)]))).set pi (.inr (4, [.ref (ai + 98), .int (nI n), .long (sx_l R3 10), .long (sx_l R3 11)])) = _
      rw [e24, e25]
  · obtain ⟨R1, R2, R3⟩ := R
    dsimp only at *
    subst c1
    have ne : ¬ M.1 = -2 := by rw [c4]; exact nI_neg2 (by omega)
    have EA : fm_runA M.1 (nI p) (fm_rrE M.1 M.2) = r := by unfold fm_runA; rw [if_neg ne]; exact c5
    have hR2 : R2 = sx_sL c.1 14 gw := hgw
    have e24 : sx_L (fm_rrE M.1 M.2) 24 p = sx_L m 24 p := by
      rw [show 4 * 0 + p = p by omega, em] at c8
      exact c8
    have e25 : sx_L (fm_rrE M.1 M.2) 25 p = sx_L m 25 p := by
      rw [show 4 * 0 + p = p by omega, em] at c9
      exact c9
    refine ⟨?_, ⟨?_, ⟨nl, hnl, ?_⟩, ?_, ?_, ?_, ?_, ?_, ?_, ?_, ?_, ?_, ?_, ?_⟩, rfl, RF, ?_, Or.inr ⟨ne, c3, rfl, e24, e25⟩⟩
    · show r = _
      rw [EA]
    · exact W1 _ (by rw [hR2]; rfl)
    · exact LN _ (by rw [hR2]; rfl) (by rw [hR2]; rfl)
    · show sx_i R2 7 = _
      rw [RF.2.2.2.1, hR2]; exact h7
    · rw [RF.2.2.2.1]; exact h75
    · intro k hk
      show sx_L R2 8 k = sx_L M.2 23 k
      have := c7 k hk
      rw [show 8 * 0 + k = k by omega, em] at this
      rw [hR2, this]; exact h8 k hk
    · show sx_i R2 9 = sx_i M.2 13 + sx_i M.2 31
      rw [c6, m13, hR2, Int32.add_zero]; exact h9
    · show nI i = M.1
      rw [c4]
    · show sx_i R2 24 = sx_i M.2 15
      rw [m15, hR2]; exact h24
    · exact x2
    · exact x3
    · exact x4.2.2.2.2
    · exact u1
    · exact u2
    · rw [e24, e25]; exact hc
