/-! PennyJudgeModel: runsReal (by tools/gen_m13.py) -/
set_option maxRecDepth 100000
def fm_rrB (k : Nat) (m : sx_M) : sx_M := sx_sI m 18 (upd (sx_I m 18) (nI k).toNatClampNeg (sx_I m 4 (nI k).toNatClampNeg))
def fm_rrS (m : sx_M) : sx_M := sx_si (sx_si m 16 0) 17 (sx_i m 3)
def fm_rr0 (m : sx_M) (n : Nat) : sx_M := it_up fm_rrB n 0 (fm_rrS m)
def fm_rrE (r : Int32) (m : sx_M) : sx_M := sx_si (sx_si m 14 r) 13 (sx_i m 13 + sx_i m 31)
def fm_runsReal (m : sx_M) (p : Int32) (n : Nat) : Int32 × sx_M := ((fm_runs (fm_rr0 m n) p).1, fm_rrE (fm_runs (fm_rr0 m n) p).1 (fm_runs (fm_rr0 m n) p).2)
theorem ly_X4_runsReal {G : pj_G} {d : Nat} {c : sx_C} {o : Nat → Int64} {D : pj_H} {Q : pj_O → pj_H → Prop} (p : Int32) (n j : Nat) (s : sx_M) (hn : n ≤ 12) (hj : j < n) (hi : sx_i s 3 = nI n) (kk : pj_J G mX4_runsReal (d + 7) 15 [some (.ref 59), some (.int p), some (.int (nI j + 1))] [] (sx_mk c (fm_rrB j s) o D) 0 0 Q) : pj_J G mX4_runsReal (d + 7) 15 [some (.ref 59), some (.int p), some (.int (nI j))] [] (sx_mk c s o D) 0 0 Q := by
  refine pj_J.go (oX4_runsReal G) 4 rfl trivial ?_
  refine pj_J.neg (by rw [hi]; exact nI_lt_lit hj (by omega)) ?_
  refine pj_J.go (oX4_runsReal G) 10 rfl ⟨by exact vp_in_lit (by omega), by exact vp_in_lit (by omega), trivial⟩ ?_
  exact kk
theorem lz_X4_runsReal {G : pj_G} {d : Nat} {c : sx_C} {o : Nat → Int64} {D : pj_H} {Q : pj_O → pj_H → Prop} (p r : Int32) (n : Nat) (m2 m3 : sx_M) (hn : n ≤ 12) (hi : sx_i m2 3 = nI n) (cr : pj_Rt G mX4_runs (d + 6) [.ref 59, .int p] (sx_mk c m2 o D) 0 0 (some (.int r)) (sx_mk c m3 o D)) (q : Q (.inl (some (.int r))) (sx_mk c (fm_rrE r m3) o D)) : pj_J G mX4_runsReal (d + 7) 15 [some (.ref 59), some (.int p), some (.int (nI n))] [] (sx_mk c m2 o D) 0 0 Q := by
  refine pj_J.go (oX4_runsReal G) 4 rfl trivial ?_
  refine pj_J.pos (by rw [hi]; exact nI_ge_lit (Nat.le_refl _) (by omega)) ?_
  refine pj_J.go (oX4_runsReal G) 3 rfl trivial ?_
  refine pj_J.cal0 kX4_runsReal_44 cr ⟨_, _, _, rfl, rfl⟩ pj_le0 pj_le0 pj_le0 ?_
  refine pj_J.go (oX4_runsReal G) 10 rfl trivial ?_
  exact pj_iret dX4_runsReal_67 rfl q
theorem c_X4_runsReal {G : pj_G} {d : Nat} {c : sx_C} {m : sx_M} {o : Nat → Int64} {D : pj_H} (p : Int32) (n : Nat) (hn : n ≤ 12) (en : sx_i m 3 = nI n) (cr : pj_Rt G mX4_runs (d + 6) [.ref 59, .int p] (sx_mk c (fm_rr0 m n) o D) 0 0 (some (.int (fm_runs (fm_rr0 m n) p).1)) (sx_mk c (fm_runs (fm_rr0 m n) p).2 o D)) : pj_Rt G mX4_runsReal (d + 7) [.ref 59, .int p] (sx_mk c m o D) 0 0 (some (.int (fm_runsReal m p n).1)) (sx_mk c (fm_runsReal m p n).2 o D) := by
  refine pj_Cn.start ?_
  refine pj_J.go (oX4_runsReal G) 9 rfl trivial ?_
  exact pj_for (fun j s => pj_J G mX4_runsReal (d + 7) 15 [some (.ref 59), some (.int p), some (.int (nI j))] [] (sx_mk c s o D) 0 0 _) fm_rrB (fun _ s => sx_i s 3 = nI n) n (fun j s hj hi => ⟨hi, fun kk => ly_X4_runsReal p n j s hn hj hi (by rw [nI_add1]; exact kk)⟩) n 0 (fm_rrS m) (by simp) en (fun hi => lz_X4_runsReal p _ n _ _ hn hi cr ⟨rfl, rfl⟩)
