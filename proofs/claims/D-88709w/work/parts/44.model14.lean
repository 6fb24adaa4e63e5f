/-! PennyJudgeModel: run (by tools/gen_m14.py) -/
set_option maxRecDepth 100000
theorem c_X4_run0 {G : pj_G} {d : Nat} {c : sx_C} {m : sx_M} {o : Nat → Int64} {D : pj_H} (p : Int32) (h : fm_isProgram m p = 0) : pj_Rt G mX4_run (d + 8) [.ref 59, .int p] (sx_mk c m o D) 0 0 (some (.int (-1))) (sx_mk c m o D) := by
  refine pj_Cn.start ?_
  refine pj_J.go (oX4_run G) 2 rfl trivial ?_
  refine pj_J.cal0 kX4_run_2 (c_X4_isProgram p) ⟨_, _, _, rfl, rfl⟩ pj_le0 pj_le0 pj_le0 ?_
  refine pj_J.go (oX4_run G) 1 rfl trivial ?_
  refine pj_J.pos (h) ?_
  refine pj_J.go (oX4_run G) 1 rfl trivial ?_
  exact pj_iret dX4_run_9 rfl ⟨rfl, rfl⟩
def fm_runA (r p : Int32) (m : sx_M) : Int32 := if r = -2 then sx_I m 8 p.toNatClampNeg else sx_i m 32
theorem c_X4_run1 {G : pj_G} {d : Nat} {c : sx_C} {m : sx_M} {o : Nat → Int64} {D : pj_H} (p : Int32) (r : Int32) (m1 : sx_M) (hp : vp_in p 4) (h : ¬ fm_isProgram m p = 0) (cr : pj_Rt G mX4_runsReal (d + 7) [.ref 59, .int p] (sx_mk c m o D) 0 0 (some (.int r)) (sx_mk c m1 o D)) : pj_Rt G mX4_run (d + 8) [.ref 59, .int p] (sx_mk c m o D) 0 0 (some (.int (fm_runA r p m1))) (sx_mk c m1 o D) := by
  unfold fm_runA
  refine pj_Cn.start ?_
  refine pj_J.go (oX4_run G) 2 rfl trivial ?_
  refine pj_J.cal0 kX4_run_2 (c_X4_isProgram p) ⟨_, _, _, rfl, rfl⟩ pj_le0 pj_le0 pj_le0 ?_
  refine pj_J.go (oX4_run G) 1 rfl trivial ?_
  refine pj_J.neg (h) ?_
  refine pj_J.go (oX4_run G) 2 rfl trivial ?_
  refine pj_J.cal0 kX4_run_12 cr ⟨_, _, _, rfl, rfl⟩ pj_le0 pj_le0 pj_le0 ?_
  refine pj_J.go (oX4_run G) 2 rfl trivial ?_
  refine pj_J.ite (fun hc17 => ?_) (fun hc17 => ?_)
  · skip
    refine pj_J.go (oX4_run G) 5 rfl ⟨by exact hp, trivial⟩ ?_
    first | (rw [if_pos hc17]; exact pj_iret dX4_run_33 rfl ⟨rfl, rfl⟩) | (rw [if_neg hc17]; exact pj_iret dX4_run_33 rfl ⟨rfl, rfl⟩)
  · skip
    refine pj_J.go (oX4_run G) 2 rfl trivial ?_
    first | (rw [if_pos hc17]; exact pj_iret dX4_run_33 rfl ⟨rfl, rfl⟩) | (rw [if_neg hc17]; exact pj_iret dX4_run_33 rfl ⟨rfl, rfl⟩)
