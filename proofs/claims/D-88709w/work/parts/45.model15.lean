/-! PennyJudgeModel: years (by tools/gen_m15.py) -/
set_option maxRecDepth 100000
def fm_yrL (p : Int32) (n : Nat) : Nat → Nat → sx_M → Int32 × sx_M
  | 0, k, m => (nI k, m)
  | j + 1, k, m => if (fm_runsReal m p n).1 = -2 then fm_yrL p n j (k + 1) (fm_runsReal m p n).2 else (nI k, (fm_runsReal m p n).2)
theorem lz_X4_years {G : pj_G} {d : Nat} {c : sx_C} {o : Nat → Int64} {D : pj_H} {Q : pj_O → pj_H → Prop} (p : Int32) (y : Nat) (m : sx_M) (hy : y ≤ 40) (q : Q (.inl (some (.int (nI y)))) (sx_mk c m o D)) : pj_J G mX4_years (d + 8) 22 [some (.ref 59), some (.int p), some (.int (nI y)), some (.int (nI y))] [] (sx_mk c m o D) 0 0 Q := by
  refine pj_J.go (oX4_years G) 3 rfl trivial ?_
  refine pj_J.pos (nI_ge_lit (Nat.le_refl _) (by omega)) ?_
  refine pj_J.go (oX4_years G) 1 rfl trivial ?_
  exact pj_iret dX4_years_44 rfl q
theorem lb_X4_years {G : pj_G} {d : Nat} {c : sx_C} {o : Nat → Int64} {D : pj_H} {Q : pj_O → pj_H → Prop} (p r : Int32) (y k : Nat) (m m1 : sx_M) (hy : y ≤ 40) (hk : k < y) (cr : pj_Rt G mX4_runsReal (d + 7) [.ref 59, .int p] (sx_mk c m o D) 0 0 (some (.int r)) (sx_mk c m1 o D)) (yes : r = -2 → pj_J G mX4_years (d + 8) 22 [some (.ref 59), some (.int p), some (.int (nI y)), some (.int (nI k + 1))] [] (sx_mk c m1 o D) 0 0 Q) (no : ¬ r = -2 → Q (.inl (some (.int (nI k)))) (sx_mk c m1 o D)) : pj_J G mX4_years (d + 8) 22 [some (.ref 59), some (.int p), some (.int (nI y)), some (.int (nI k))] [] (sx_mk c m o D) 0 0 Q := by
  refine pj_J.go (oX4_years G) 3 rfl trivial ?_
  refine pj_J.neg (nI_lt_lit hk (by omega)) ?_
  refine pj_J.go (oX4_years G) 2 rfl trivial ?_
  refine pj_J.cal0 kX4_years_29 cr ⟨_, _, _, rfl, rfl⟩ pj_le0 pj_le0 pj_le0 ?_
  refine pj_J.go (oX4_years G) 2 rfl trivial ?_
  refine pj_J.ite (fun hc34 => ?_) (fun hc34 => ?_)
  · skip
    refine pj_J.go (oX4_years G) 2 rfl trivial ?_
    exact yes hc34
  · skip
    refine pj_J.go (oX4_years G) 1 rfl trivial ?_
    exact pj_iret dX4_years_44 rfl (no hc34)
theorem lp_X4_years {G : pj_G} {d : Nat} {c : sx_C} {o : Nat → Int64} {D : pj_H} {Q : pj_O → pj_H → Prop} (p : Int32) (y n : Nat) (hy : y ≤ 40) (inv : Nat → sx_M → Prop) (hinv : ∀ k m, k < y → inv k m → pj_Rt G mX4_runsReal (d + 7) [.ref 59, .int p] (sx_mk c m o D) 0 0 (some (.int (fm_runsReal m p n).1)) (sx_mk c (fm_runsReal m p n).2 o D) ∧ ((fm_runsReal m p n).1 = -2 → inv (k + 1) (fm_runsReal m p n).2)) : ∀ (j k : Nat) (m : sx_M), k + j = y → inv k m → Q (.inl (some (.int (fm_yrL p n j k m).1))) (sx_mk c (fm_yrL p n j k m).2 o D) → pj_J G mX4_years (d + 8) 22 [some (.ref 59), some (.int p), some (.int (nI y)), some (.int (nI k))] [] (sx_mk c m o D) 0 0 Q := by
  intro j
  induction j with
  | zero =>
    intro k m hk hi q
    have : k = y := by omega
    subst this
    exact lz_X4_years p k m hy q
  | succ j ih =>
    intro k m hk hi q
    obtain ⟨cr, h2⟩ := hinv k m (by omega) hi
    rw [fm_yrL] at q
    refine lb_X4_years p _ y k m _ hy (by omega) cr (fun hc => ?_) (fun hc => ?_)
    · rw [if_pos hc] at q
      rw [nI_add1]
      exact ih (k + 1) _ (by omega) (h2 hc) q
    · rw [if_neg hc] at q
      exact q
theorem c_X4_years {G : pj_G} {d : Nat} {c : sx_C} {m : sx_M} {o : Nat → Int64} {D : pj_H} (p : Int32) (y n : Nat) (hy : y ≤ 40) (h : ¬ fm_isProgram m p = 0) (hq : ¬ fm_in (nI y) 0 40 = 0) (inv : Nat → sx_M → Prop) (hinv : ∀ k m, k < y → inv k m → pj_Rt G mX4_runsReal (d + 7) [.ref 59, .int p] (sx_mk c m o D) 0 0 (some (.int (fm_runsReal m p n).1)) (sx_mk c (fm_runsReal m p n).2 o D) ∧ ((fm_runsReal m p n).1 = -2 → inv (k + 1) (fm_runsReal m p n).2)) (h0 : inv 0 m) : pj_Rt G mX4_years (d + 8) [.ref 59, .int p, .int (nI y)] (sx_mk c m o D) 0 0 (some (.int (fm_yrL p n y 0 m).1)) (sx_mk c (fm_yrL p n y 0 m).2 o D) := by
  refine pj_Cn.start ?_
  refine pj_J.go (oX4_years G) 2 rfl trivial ?_
  refine pj_J.cal0 kX4_years_2 (c_X4_isProgram p) ⟨_, _, _, rfl, rfl⟩ pj_le0 pj_le0 pj_le0 ?_
  refine pj_J.go (oX4_years G) 1 rfl trivial ?_
  refine pj_J.neg (h) ?_
  refine pj_J.go (oX4_years G) 3 rfl trivial ?_
  refine pj_J.cal0 kX4_years_12 (c_X4_in _ _ _) trivial pj_le0 pj_le0 pj_le0 ?_
  refine pj_J.go (oX4_years G) 1 rfl trivial ?_
  refine pj_J.neg (hq) ?_
  refine pj_J.go (oX4_years G) 2 rfl trivial ?_
  exact lp_X4_years p y n hy inv hinv y 0 m (by omega) h0 ⟨rfl, rfl⟩
theorem c_X4_years0 {G : pj_G} {d : Nat} {c : sx_C} {m : sx_M} {o : Nat → Int64} {D : pj_H} (p y : Int32) (h : fm_isProgram m p = 0) : pj_Rt G mX4_years (d + 8) [.ref 59, .int p, .int y] (sx_mk c m o D) 0 0 (some (.int (-1))) (sx_mk c m o D) := by
  refine pj_Cn.start ?_
  refine pj_J.go (oX4_years G) 2 rfl trivial ?_
  refine pj_J.cal0 kX4_years_2 (c_X4_isProgram p) ⟨_, _, _, rfl, rfl⟩ pj_le0 pj_le0 pj_le0 ?_
  refine pj_J.go (oX4_years G) 1 rfl trivial ?_
  refine pj_J.pos (h) ?_
  refine pj_J.go (oX4_years G) 1 rfl trivial ?_
  exact pj_iret dX4_years_19 rfl ⟨rfl, rfl⟩
theorem c_X4_years1 {G : pj_G} {d : Nat} {c : sx_C} {m : sx_M} {o : Nat → Int64} {D : pj_H} (p y : Int32) (h : ¬ fm_isProgram m p = 0) (hq : fm_in y 0 40 = 0) : pj_Rt G mX4_years (d + 8) [.ref 59, .int p, .int y] (sx_mk c m o D) 0 0 (some (.int (-1))) (sx_mk c m o D) := by
  refine pj_Cn.start ?_
  refine pj_J.go (oX4_years G) 2 rfl trivial ?_
  refine pj_J.cal0 kX4_years_2 (c_X4_isProgram p) ⟨_, _, _, rfl, rfl⟩ pj_le0 pj_le0 pj_le0 ?_
  refine pj_J.go (oX4_years G) 1 rfl trivial ?_
  refine pj_J.neg (h) ?_
  refine pj_J.go (oX4_years G) 3 rfl trivial ?_
  refine pj_J.cal0 kX4_years_12 (c_X4_in _ _ _) trivial pj_le0 pj_le0 pj_le0 ?_
  refine pj_J.go (oX4_years G) 1 rfl trivial ?_
  refine pj_J.pos (hq) ?_
  refine pj_J.go (oX4_years G) 1 rfl trivial ?_
  exact pj_iret dX4_years_19 rfl ⟨rfl, rfl⟩
