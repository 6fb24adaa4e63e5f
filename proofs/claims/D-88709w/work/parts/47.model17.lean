/-! PennyJudgeModel: notes (by tools/gen_m17.py) -/
set_option maxRecDepth 100000
def fm_ntB (k : Nat) (m : sx_M) : sx_M := sx_sL m 42 (vp_updL (sx_L m 42) (nI k).toNatClampNeg (sx_L m 23 (8 + nI k).toNatClampNeg))
def fm_notes (m : sx_M) : sx_M := it_up fm_ntB 8 0 m
theorem ly_X4_notes {G : pj_G} {d : Nat} {c : sx_C} {o : Nat → Int64} {D : pj_H} {Q : pj_O → pj_H → Prop} (j : Nat) (s : sx_M) (hj : j < 8) (kk : pj_J G mX4_notes d 2 [some (.ref 59), some (.int (nI j + 1))] [] (sx_mk c (fm_ntB j s) o D) 0 0 Q) : pj_J G mX4_notes d 2 [some (.ref 59), some (.int (nI j))] [] (sx_mk c s o D) 0 0 Q := by
  refine pj_J.go (oX4_notes G) 3 rfl trivial ?_
  refine pj_J.neg (nI_lt_lit hj (by decide)) ?_
  refine pj_J.go (oX4_notes G) 12 rfl ⟨by exact vp_in_8k hj, by exact vp_in_lit hj, trivial⟩ ?_
  exact kk
theorem lz_X4_notes {G : pj_G} {d : Nat} {c : sx_C} {o : Nat → Int64} {D : pj_H} {Q : pj_O → pj_H → Prop} (m2 : sx_M) (q : Q (.inl none) (sx_mk c m2 o D)) : pj_J G mX4_notes d 2 [some (.ref 59), some (.int (nI 8))] [] (sx_mk c m2 o D) 0 0 Q := by
  refine pj_J.go (oX4_notes G) 3 rfl trivial ?_
  refine pj_J.pos (nI_ge_lit (Nat.le_refl _) (by decide)) ?_
  exact pj_vret dX4_notes_29 rfl q
theorem c_X4_notes {G : pj_G} {d : Nat} {c : sx_C} {m : sx_M} {o : Nat → Int64} {D : pj_H} : pj_Rt G mX4_notes d [.ref 59] (sx_mk c m o D) 0 0 none (sx_mk c (fm_notes m) o D) := by
  refine pj_Cn.start ?_
  refine pj_J.go (oX4_notes G) 2 rfl trivial ?_
  exact pj_for (fun j s => pj_J G mX4_notes d 2 [some (.ref 59), some (.int (nI j))] [] (sx_mk c s o D) 0 0 _) fm_ntB (fun _ _ => True) 8 (fun j s hj hi => ⟨hi, fun kk => ly_X4_notes j s hj (by rw [nI_add1]; exact kk)⟩) 8 0 m (by simp) trivial (fun hi => lz_X4_notes _ ⟨rfl, rfl⟩)
