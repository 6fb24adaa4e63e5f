/-! PennyJudgeModel: splits, rules 0 and 1 (by tools/gen_m10.py) -/
set_option maxRecDepth 100000
theorem lp_X4_splits1 {G : pj_G} {d : Nat} {c : sx_C} {m : sx_M} {o : Nat → Int64} {D : pj_H} {Q : pj_O → pj_H → Prop} (x : Int64) (set : Int32) (hb : sx_i m 16 = 0 ∨ sx_i m 16 = 1) (hset : vp_in set 4) (hw : vp_in (sx_I m 5 set.toNatClampNeg) 9) (ha : ¬ fm_allW m set = 0) : ∀ (n k : Nat) (zl : Int64) (zm : sx_M), k + n = 8 → (fm_sp1 set n k (zl, zm)).1 ≤ 0 → zm.1 = m.1 → sx_I zm = sx_I m → ((fm_sp1 set n k (zl, zm)).2.1 = m.1 → sx_I (fm_sp1 set n k (zl, zm)).2 = sx_I m → pj_J G mX4_splits (d + 3) 223 [some (.ref 59), some (.long x), none, some (.int 1), some (.int set), some (.int (fm_partsOf m set)), some (.long (fm_allW m set)), none, some (.long (fm_sp1 set n k (zl, zm)).1), none, none, none, none, none, none, none] [] (sx_mk c (fm_sp1 set n k (zl, zm)).2 o D) 0 0 Q) → pj_J G mX4_splits (d + 3) 158 [some (.ref 59), some (.long x), none, some (.int 1), some (.int set), some (.int (fm_partsOf m set)), some (.long (fm_allW m set)), none, some (.long zl), none, some (.int (nI k)), none, none, none, none, none] [] (sx_mk c zm o D) 0 0 Q := by
  intro n
  induction n with
  | zero =>
    intro k zl zm hk h0 h1 h2 q
    refine pj_J.go (oX4_splits G) 3 rfl trivial ?_
    refine pj_J.pos (rfl) ?_
    refine pj_J.go (oX4_splits G) 4 rfl trivial ?_
    refine pj_J.pos (pj_lc_le.mpr h0) ?_
    refine pj_J.drop ?_ (q h1 h2)
    exact ⟨rfl, rfl, rfl, rfl, rfl, rfl, rfl, trivial⟩
  | succ n ih =>
    intro k zl zm hk h0 h1 h2 q
    have hb2 : sx_i zm 16 = 0 ∨ sx_i zm 16 = 1 := by rw [show sx_i zm = sx_i m from h1]; exact hb
    have hw2 : vp_in (sx_I zm 5 set.toNatClampNeg) 9 := by rw [h2]; exact hw
    by_cases hl : zl ≤ 0
    · rw [fm_sp1, if_pos hl] at q
      refine pj_J.go (oX4_splits G) 3 rfl trivial ?_
      refine pj_J.pos (rfl) ?_
      refine pj_J.go (oX4_splits G) 4 rfl trivial ?_
      refine pj_J.pos (pj_lc_le.mpr hl) ?_
      refine pj_J.drop ?_ (q h1 h2)
      exact ⟨rfl, rfl, rfl, rfl, rfl, rfl, rfl, trivial⟩
    · rw [fm_sp1, if_neg hl] at q h0
      dsimp only at q h0
      by_cases hq : fm_weighed zm set (nI k) ≤ 0
      · have e1 : fm_spO zm set k = 0 := by unfold fm_spO; rw [if_pos hq]
        rw [e1] at q h0
        refine pj_J.go (oX4_splits G) 3 rfl trivial ?_
        refine pj_J.pos (rfl) ?_
        refine pj_J.go (oX4_splits G) 4 rfl trivial ?_
        refine pj_J.neg (fun z => hl (pj_lc_le.mp z)) ?_
        refine pj_J.go (oX4_splits G) 3 rfl trivial ?_
        refine pj_J.cal0 kX4_splits_175 (c_X4_weighed (m := zm) _ _ hset hw2 (vp_in_lit (by omega))) ⟨_, _, _, rfl, rfl⟩ pj_le0 pj_le0 pj_le0 ?_
        refine pj_J.go (oX4_splits G) 3 rfl trivial ?_
        refine pj_J.pos (pj_lc_le.mpr hq) ?_
        refine pj_J.go (oX4_splits G) 21 rfl ⟨by exact vp_in_b8 hb2 (vp_in_lit (by omega)), by exact vp_in_b8 hb2 (vp_in_lit (by omega)), trivial⟩ ?_
        have kk := ih (k + 1) (zl - 0) (fm_spt zm (nI k) (fm_pt zm (nI k) + 0)) (by omega) h0 h1 h2 q
        rw [← nI_add1] at kk
        refine pj_J.drop ?_ kk
        exact ⟨rfl, rfl, rfl, rfl, rfl, rfl, rfl, rfl, trivial⟩
      · have e1 : fm_spO zm set k = 1 := by unfold fm_spO; rw [if_neg hq]
        rw [e1] at q h0
        refine pj_J.go (oX4_splits G) 3 rfl trivial ?_
        refine pj_J.pos (rfl) ?_
        refine pj_J.go (oX4_splits G) 4 rfl trivial ?_
        refine pj_J.neg (fun z => hl (pj_lc_le.mp z)) ?_
        refine pj_J.go (oX4_splits G) 3 rfl trivial ?_
        refine pj_J.cal0 kX4_splits_175 (c_X4_weighed (m := zm) _ _ hset hw2 (vp_in_lit (by omega))) ⟨_, _, _, rfl, rfl⟩ pj_le0 pj_le0 pj_le0 ?_
        refine pj_J.go (oX4_splits G) 3 rfl trivial ?_
        refine pj_J.neg (fun z => hq (pj_lc_le.mp z)) ?_
        refine pj_J.go (oX4_splits G) 22 rfl ⟨by exact vp_in_b8 hb2 (vp_in_lit (by omega)), by exact vp_in_b8 hb2 (vp_in_lit (by omega)), trivial⟩ ?_
        have kk := ih (k + 1) (zl - 1) (fm_spt zm (nI k) (fm_pt zm (nI k) + 1)) (by omega) h0 h1 h2 q
        rw [← nI_add1] at kk
        refine pj_J.drop ?_ kk
        exact ⟨rfl, rfl, rfl, rfl, rfl, rfl, rfl, rfl, trivial⟩
theorem lp_X4_splits0 {G : pj_G} {d : Nat} {c : sx_C} {m : sx_M} {o : Nat → Int64} {D : pj_H} {Q : pj_O → pj_H → Prop} (x : Int64) (rule set : Int32) (hb : sx_i m 16 = 0 ∨ sx_i m 16 = 1) (hset : vp_in set 4) (hw : vp_in (sx_I m 5 set.toNatClampNeg) 9) (ha : ¬ fm_allW m set = 0) : ∀ (n : Nat) (zl : Int64) (zm : sx_M), (fm_sp0 x set (fm_partsOf m set) (fm_allW m set) n (zl, zm)).1 ≤ 0 → zm.1 = m.1 → sx_I zm = sx_I m → pj_J G mX4_splits (d + 3) 332 [some (.ref 59), some (.long x), none, some (.int rule), some (.int set), some (.int (fm_partsOf m set)), some (.long (fm_allW m set)), none, some (.long (fm_sp0 x set (fm_partsOf m set) (fm_allW m set) n (zl, zm)).1), none, none, none, none, none, none, none] [] (sx_mk c (fm_sp0 x set (fm_partsOf m set) (fm_allW m set) n (zl, zm)).2 o D) 0 0 Q → pj_J G mX4_splits (d + 3) 223 [some (.ref 59), some (.long x), none, some (.int rule), some (.int set), some (.int (fm_partsOf m set)), some (.long (fm_allW m set)), none, some (.long zl), none, none, none, none, none, none, none] [] (sx_mk c zm o D) 0 0 Q := by
  obtain ⟨N, hN, e⟩ := vp_in_of (fm_partsOf_vp hw) (by decide)
  have ep : (fm_partsOf m set).toNatClampNeg = N := by rw [e, nI_clamp (by omega)]
  intro n
  induction n with
  | zero =>
    intro zl zm h0 h1 h2 q
    refine pj_J.go (oX4_splits G) 4 rfl trivial ?_
    refine pj_J.pos (pj_lc_le.mpr h0) ?_
    exact q
  | succ n ih =>
    intro zl zm h0 h1 h2 q
    have hb2 : sx_i zm 16 = 0 ∨ sx_i zm 16 = 1 := by rw [show sx_i zm = sx_i m from h1]; exact hb
    have hw2 : vp_in (sx_I zm 5 set.toNatClampNeg) 9 := by rw [h2]; exact hw
    by_cases hl : zl ≤ 0
    · rw [fm_sp0, if_pos hl] at q
      refine pj_J.go (oX4_splits G) 4 rfl trivial ?_
      refine pj_J.pos (pj_lc_le.mpr hl) ?_
      exact q
    · rw [fm_sp0, if_neg hl] at q h0
      dsimp only at q h0
      have kk9 := ih (zl - 1) (fm_spt zm (fm_best zm x set (fm_partsOf m set) (fm_allW m set)) (fm_pt zm (fm_best zm x set (fm_partsOf m set) (fm_allW m set)) + 1)) h0 h1 h2 q
      unfold fm_best at kk9
      rw [ep] at kk9
      refine pj_J.go (oX4_splits G) 4 rfl trivial ?_
      refine pj_J.neg (fun z => hl (pj_lc_le.mp z)) ?_
      refine pj_J.go (oX4_splits G) 6 rfl trivial ?_
      refine pj_for (fun k (z : Int32 × Int64) => pj_J G mX4_splits (d + 3) 239 [some (.ref 59), some (.long x), none, some (.int rule), some (.int set), some (.int (fm_partsOf m set)), some (.long (fm_allW m set)), none, some (.long zl), none, some (.int z.1), some (.long z.2), none, some (.int (nI k)), none, none] [] (sx_mk c zm o D) 0 0 Q) (fm_beB zm x set (fm_allW m set)) (fun _ z => vp_in z.1 8) N (fun k z hk hi => ⟨?_, fun kk => ?_⟩) N 0 (0, 0) (by simp) (vp_in_nI (n := 0) (by decide) (by decide)) (fun hi => ?_)
      · unfold fm_beB
        split
        · exact vp_in_lit (by omega)
        · split
          · exact hi
          · exact vp_in_lit (by omega)
      · rw [← nI_add1] at kk
        have q1 : ¬ fm_partsOf m set ≤ nI k := by rw [e]; exact nI_lt_lit hk (by omega)
        by_cases h5 : nI k = 0
        · have e5 : fm_beB zm x set (fm_allW m set) k z = (nI k, x * fm_weighed zm set (nI k) - fm_pt zm (nI k) * fm_allW m set) := by unfold fm_beB; rw [if_pos h5]
          rw [e5] at kk
          refine pj_J.go (oX4_splits G) 3 rfl trivial ?_
          refine pj_J.neg (q1) ?_
          refine pj_J.go (oX4_splits G) 4 rfl trivial ?_
          refine pj_J.cal0 kX4_splits_252 (c_X4_weighed (m := zm) _ _ hset hw2 (vp_in_lit (by omega))) ⟨_, _, _, rfl, rfl⟩ pj_le0 pj_le0 pj_le0 ?_
          refine pj_J.go (oX4_splits G) 16 rfl ⟨by exact vp_in_b8 hb2 (vp_in_lit (by omega)), trivial⟩ ?_
          refine pj_J.pos (h5) ?_
          refine pj_J.go (oX4_splits G) 6 rfl trivial ?_
          refine pj_J.drop ?_ kk
          exact ⟨rfl, rfl, rfl, rfl, rfl, rfl, rfl, rfl, rfl, rfl, trivial⟩
        · by_cases h6 : x * fm_weighed zm set (nI k) - fm_pt zm (nI k) * fm_allW m set ≤ z.2
          · have e5 : fm_beB zm x set (fm_allW m set) k z = z := by unfold fm_beB; rw [if_neg h5, if_pos h6]
            rw [e5] at kk
            refine pj_J.go (oX4_splits G) 3 rfl trivial ?_
            refine pj_J.neg (q1) ?_
            refine pj_J.go (oX4_splits G) 4 rfl trivial ?_
            refine pj_J.cal0 kX4_splits_252 (c_X4_weighed (m := zm) _ _ hset hw2 (vp_in_lit (by omega))) ⟨_, _, _, rfl, rfl⟩ pj_le0 pj_le0 pj_le0 ?_
            refine pj_J.go (oX4_splits G) 16 rfl ⟨by exact vp_in_b8 hb2 (vp_in_lit (by omega)), trivial⟩ ?_
            refine pj_J.neg (h5) ?_
            refine pj_J.go (oX4_splits G) 4 rfl trivial ?_
            refine pj_J.pos (pj_lc_le.mpr h6) ?_
            refine pj_J.go (oX4_splits G) 2 rfl trivial ?_
            refine pj_J.drop ?_ kk
            exact ⟨rfl, rfl, rfl, rfl, rfl, rfl, rfl, rfl, rfl, rfl, trivial⟩
          · have e5 : fm_beB zm x set (fm_allW m set) k z = (nI k, x * fm_weighed zm set (nI k) - fm_pt zm (nI k) * fm_allW m set) := by unfold fm_beB; rw [if_neg h5, if_neg h6]
            rw [e5] at kk
            refine pj_J.go (oX4_splits G) 3 rfl trivial ?_
            refine pj_J.neg (q1) ?_
            refine pj_J.go (oX4_splits G) 4 rfl trivial ?_
            refine pj_J.cal0 kX4_splits_252 (c_X4_weighed (m := zm) _ _ hset hw2 (vp_in_lit (by omega))) ⟨_, _, _, rfl, rfl⟩ pj_le0 pj_le0 pj_le0 ?_
            refine pj_J.go (oX4_splits G) 16 rfl ⟨by exact vp_in_b8 hb2 (vp_in_lit (by omega)), trivial⟩ ?_
            refine pj_J.neg (h5) ?_
            refine pj_J.go (oX4_splits G) 4 rfl trivial ?_
            refine pj_J.neg (fun z => h6 (pj_lc_le.mp z)) ?_
            refine pj_J.go (oX4_splits G) 6 rfl trivial ?_
            refine pj_J.drop ?_ kk
            exact ⟨rfl, rfl, rfl, rfl, rfl, rfl, rfl, rfl, rfl, rfl, trivial⟩
      · generalize it_up (fm_beB zm x set (fm_allW m set)) N 0 (0, 0) = z at hi kk9 ⊢
        obtain ⟨zb, zo⟩ := z
        dsimp only at hi kk9 ⊢
        refine pj_J.go (oX4_splits G) 3 rfl trivial ?_
        refine pj_J.pos (by rw [e]; exact nI_ge_lit (Nat.le_refl N) (by omega)) ?_
        refine pj_J.go (oX4_splits G) 18 rfl ⟨by exact vp_in_b8 hb2 hi, by exact vp_in_b8 hb2 hi, trivial⟩ ?_
        refine pj_J.drop ?_ kk9
        exact ⟨rfl, rfl, rfl, rfl, rfl, rfl, rfl, trivial⟩
def fm_splits1 (m : sx_M) (x : Int64) (set : Int32) : Int64 × sx_M := fm_sp1 set 8 0 (fm_spA m x 1 set)
def fm_splits0 (m : sx_M) (x : Int64) (set : Int32) : Int64 × sx_M := fm_sp0 x set (fm_partsOf m set) (fm_allW m set) 8 (fm_spA m x 0 set)
theorem c_X4_splits1 {G : pj_G} {d : Nat} {c : sx_C} {m : sx_M} {o : Nat → Int64} {D : pj_H} (x : Int64) (set : Int32) (hb : sx_i m 16 = 0 ∨ sx_i m 16 = 1) (hset : vp_in set 4) (hw : vp_in (sx_I m 5 set.toNatClampNeg) 9) (ha : ¬ fm_allW m set = 0) (hf : (fm_splits1 m x set).1 ≤ 0) : pj_Rt G mX4_splits (d + 3) [.ref 59, .long x, .int 1, .int set] (sx_mk c m o D) 0 0 none (sx_mk c (fm_splits1 m x set).2 o D) := by
  refine pj_Cn.start ?_
  refine pj_J.go (oX4_splits G) 2 rfl trivial ?_
  refine pj_J.cal0 kX4_splits_3 (c_X4_partsOf (m := m) _ hset hw) ⟨_, _, _, rfl, rfl⟩ pj_le0 pj_le0 pj_le0 ?_
  refine pj_J.go (oX4_splits G) 3 rfl trivial ?_
  refine pj_J.cal0 kX4_splits_11 (c_X4_allWeights (m := m) _ hset hw) ⟨_, _, _, rfl, rfl⟩ pj_le0 pj_le0 pj_le0 ?_
  refine pj_J.go (oX4_splits G) 5 rfl trivial ?_
  refine lp_X4_splitsA x 1 set hb hset hw ha (fun z1 z2 => ?_)
  unfold fm_splits1 at hf ⊢
  generalize fm_spA m x 1 set = z at z1 z2 hf ⊢
  obtain ⟨zl, zm⟩ := z
  dsimp only at z1 z2 hf ⊢
  refine pj_J.go (oX4_splits G) 3 rfl trivial ?_
  refine pj_J.pos (by decide) ?_
  refine pj_J.go (oX4_splits G) 2 rfl trivial ?_
  refine lp_X4_splits1 x set hb hset hw ha 8 0 zl zm (by omega) hf z1 z2 (fun y1 y2 => ?_)
  refine pj_J.go (oX4_splits G) 4 rfl trivial ?_
  refine pj_J.pos (pj_lc_le.mpr hf) ?_
  exact pj_vret dX4_splits_332 rfl ⟨rfl, rfl⟩
theorem c_X4_splits0 {G : pj_G} {d : Nat} {c : sx_C} {m : sx_M} {o : Nat → Int64} {D : pj_H} (x : Int64) (set : Int32) (hb : sx_i m 16 = 0 ∨ sx_i m 16 = 1) (hset : vp_in set 4) (hw : vp_in (sx_I m 5 set.toNatClampNeg) 9) (ha : ¬ fm_allW m set = 0) (hf : (fm_splits0 m x set).1 ≤ 0) : pj_Rt G mX4_splits (d + 3) [.ref 59, .long x, .int 0, .int set] (sx_mk c m o D) 0 0 none (sx_mk c (fm_splits0 m x set).2 o D) := by
  refine pj_Cn.start ?_
  refine pj_J.go (oX4_splits G) 2 rfl trivial ?_
  refine pj_J.cal0 kX4_splits_3 (c_X4_partsOf (m := m) _ hset hw) ⟨_, _, _, rfl, rfl⟩ pj_le0 pj_le0 pj_le0 ?_
  refine pj_J.go (oX4_splits G) 3 rfl trivial ?_
  refine pj_J.cal0 kX4_splits_11 (c_X4_allWeights (m := m) _ hset hw) ⟨_, _, _, rfl, rfl⟩ pj_le0 pj_le0 pj_le0 ?_
  refine pj_J.go (oX4_splits G) 5 rfl trivial ?_
  refine lp_X4_splitsA x 0 set hb hset hw ha (fun z1 z2 => ?_)
  unfold fm_splits0 at hf ⊢
  generalize fm_spA m x 0 set = z at z1 z2 hf ⊢
  obtain ⟨zl, zm⟩ := z
  dsimp only at z1 z2 hf ⊢
  refine pj_J.go (oX4_splits G) 3 rfl trivial ?_
  refine pj_J.pos (by decide) ?_
  refine pj_J.go (oX4_splits G) 5 rfl trivial ?_
  refine pj_J.neg (by decide) ?_
  refine pj_J.drop (L' := [some (.ref 59), some (.long x), none, some (.int 0), some (.int set), some (.int (fm_partsOf m set)), some (.long (fm_allW m set)), none, some (.long zl), none, none, none, none, none, none, none]) ?_ ?_
  · exact ⟨rfl, rfl, rfl, rfl, rfl, rfl, rfl, trivial⟩
  · refine lp_X4_splits0 x 0 set hb hset hw ha 8 zl zm hf z1 z2 ?_
    exact pj_vret dX4_splits_332 rfl ⟨rfl, rfl⟩
