/-! PennyJudge: account part got slot rounded with good arguments; isTape (by tools/gen_u1.py) -/
set_option maxRecDepth 100000
def fc_isTape (u : sx_M) (k : Int32) : Int32 := if k < (0 : Int32) then (0 : Int32) else (if (6 : Int32) ≤ k then (0 : Int32) else (1 : Int32))
theorem c_X1_isTape {G : pj_G} {d : Nat} {c : sx_C} {m : sx_M} {o : Nat → Int64} {D : pj_H} (k : Int32)  : pj_Rt G mX1_isTape (d) [.ref 2, .int k] (sx_mk c m o D) 0 0 (some (.int (fc_isTape c.1 k))) (sx_mk c m o D) := by
  refine pj_Cn.start ?_
  refine pj_J.go (oX1_isTape G) 2 rfl trivial ?_
  refine pj_J.ite (fun hc1 => ?_) (fun hc1 => ?_)
  · skip
    refine pj_J.go (oX1_isTape G) 1 rfl trivial ?_
    refine pj_zret dX1_isTape_15 rfl (by first | exact Or.inl rfl | exact Or.inr rfl | exact pj_b01 _ | assumption) ?_
    show _ = _ ∧ _ = _
    have e : fc_isTape c.1 k = (0 : Int32) := by unfold fc_isTape; rw [if_pos (show k < (0 : Int32) from hc1)]
    rw [e]
    try dsimp only
    exact ⟨rfl, rfl⟩
  · skip
    refine pj_J.go (oX1_isTape G) 3 rfl trivial ?_
    refine pj_J.ite (fun hc7 => ?_) (fun hc7 => ?_)
    · skip
      refine pj_J.go (oX1_isTape G) 1 rfl trivial ?_
      refine pj_zret dX1_isTape_15 rfl (by first | exact Or.inl rfl | exact Or.inr rfl | exact pj_b01 _ | assumption) ?_
      show _ = _ ∧ _ = _
      have e : fc_isTape c.1 k = (0 : Int32) := by unfold fc_isTape; rw [if_neg (show ¬ (k < (0 : Int32)) from hc1), if_pos (show (6 : Int32) ≤ k from hc7)]
      rw [e]
      try dsimp only
      exact ⟨rfl, rfl⟩
    · skip
      refine pj_J.go (oX1_isTape G) 2 rfl trivial ?_
      refine pj_zret dX1_isTape_15 rfl (by first | exact Or.inl rfl | exact Or.inr rfl | exact pj_b01 _ | assumption) ?_
      show _ = _ ∧ _ = _
      have e : fc_isTape c.1 k = (1 : Int32) := by unfold fc_isTape; rw [if_neg (show ¬ (k < (0 : Int32)) from hc1), if_neg (show ¬ ((6 : Int32) ≤ k) from hc7)]
      rw [e]
      try dsimp only
      exact ⟨rfl, rfl⟩
theorem c_X1_accountG {G : pj_G} {d : Nat} {c : sx_C} {m : sx_M} {o : Nat → Int64} {D : pj_H} (k : Int32) (h0 : ¬ k < 0) (h1 : k ≤ 7) : pj_Rt G mX1_account d [.ref 2, .int k] (sx_mk c m o D) 0 0 (some (.long (sx_L c.1 8 k.toNatClampNeg))) (sx_mk c m o D) := by
  refine pj_Cn.start ?_
  refine pj_J.go (oX1_account G) 2 rfl trivial ?_
  refine pj_J.neg (h0) ?_
  refine pj_J.go (oX1_account G) 3 rfl trivial ?_
  refine pj_J.pos (h1) ?_
  refine pj_J.go (oX1_account G) 4 rfl ⟨by exact vp_rng (n := 7) h0 (Int32.not_lt.mpr h1), trivial⟩ ?_
  exact pj_lret dX1_account_24 rfl ⟨rfl, rfl⟩
theorem c_X1_partG {G : pj_G} {d : Nat} {c : sx_C} {m : sx_M} {o : Nat → Int64} {D : pj_H} (k : Int32) (h0 : ¬ k < 0) (h1 : k ≤ 7) : pj_Rt G mX1_part d [.ref 2, .int k] (sx_mk c m o D) 0 0 (some (.long (sx_L (sx_R c 0) 3 k.toNatClampNeg))) (sx_mk c m o D) := by
  refine pj_Cn.start ?_
  refine pj_J.go (oX1_part G) 2 rfl trivial ?_
  refine pj_J.neg (h0) ?_
  refine pj_J.go (oX1_part G) 3 rfl trivial ?_
  refine pj_J.pos (h1) ?_
  refine pj_J.go (oX1_part G) 5 rfl ⟨by exact vp_rng (n := 7) h0 (Int32.not_lt.mpr h1), trivial⟩ ?_
  exact pj_lret dX1_part_27 rfl ⟨rfl, rfl⟩
theorem c_X1_gotG {G : pj_G} {d : Nat} {c : sx_C} {m : sx_M} {o : Nat → Int64} {D : pj_H} (k : Int32) (h0 : ¬ k < 0) (h1 : k ≤ 11) : pj_Rt G mX1_got d [.ref 2, .int k] (sx_mk c m o D) 0 0 (some (.long (sx_L (sx_R c 0) 7 k.toNatClampNeg))) (sx_mk c m o D) := by
  refine pj_Cn.start ?_
  refine pj_J.go (oX1_got G) 2 rfl trivial ?_
  refine pj_J.neg (h0) ?_
  refine pj_J.go (oX1_got G) 3 rfl trivial ?_
  refine pj_J.pos (h1) ?_
  refine pj_J.go (oX1_got G) 5 rfl ⟨by exact vp_rng (n := 11) h0 (Int32.not_lt.mpr h1), trivial⟩ ?_
  exact pj_lret dX1_got_27 rfl ⟨rfl, rfl⟩
theorem c_X1_roundedG {G : pj_G} {d : Nat} {c : sx_C} {m : sx_M} {o : Nat → Int64} {D : pj_H} (n : Int64) (e u md : Int32) (hg : ¬ e < 1 ∧ ¬ 1000000 < e ∧ ¬ u < 1 ∧ ¬ 1000000 < u ∧ ¬ 1000000000000 < n ∧ ¬ n < -1000000000000 ∧ ¬ md < 0 ∧ md ≤ 5) (hz : ¬ e.toInt64 * u.toInt64 = 0) : pj_Rt G mX1_rounded (d + 2) [.ref 2, .long n, .int e, .int u, .int md] (sx_mk c m o D) 0 0 (some (.long (fc_whole n (e.toInt64 * u.toInt64) md * u.toInt64))) (sx_mk c m o D) := by
  refine pj_Cn.start ?_
  refine pj_J.go (oX1_rounded G) 3 rfl trivial ?_
  refine pj_J.neg (hg.1) ?_
  refine pj_J.go (oX1_rounded G) 3 rfl trivial ?_
  refine pj_J.neg (hg.2.1) ?_
  refine pj_J.go (oX1_rounded G) 3 rfl trivial ?_
  refine pj_J.neg (hg.2.2.1) ?_
  refine pj_J.go (oX1_rounded G) 3 rfl trivial ?_
  refine pj_J.neg (hg.2.2.2.1) ?_
  refine pj_J.go (oX1_rounded G) 4 rfl trivial ?_
  refine pj_J.neg (by rw [pj_lc_gt]; exact hg.2.2.2.2.1) ?_
  refine pj_J.go (oX1_rounded G) 4 rfl trivial ?_
  refine pj_J.neg (by rw [pj_lc_lt]; exact hg.2.2.2.2.2.1) ?_
  refine pj_J.go (oX1_rounded G) 2 rfl trivial ?_
  refine pj_J.neg (hg.2.2.2.2.2.2.1) ?_
  refine pj_J.go (oX1_rounded G) 3 rfl trivial ?_
  refine pj_J.pos (hg.2.2.2.2.2.2.2) ?_
  refine pj_J.go (oX1_rounded G) 7 rfl trivial ?_
  refine pj_J.cal0 kX1_rounded_68 (c_X1_whole n (e.toInt64 * u.toInt64) md hz) trivial pj_le0 pj_le0 pj_le0 ?_
  refine pj_J.go (oX1_rounded G) 3 rfl trivial ?_
  exact pj_lret dX1_rounded_75 rfl ⟨rfl, rfl⟩
