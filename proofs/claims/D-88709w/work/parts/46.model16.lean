/-! PennyJudgeModel: tries triesAmount (by tools/gen_m16.py) -/
set_option maxRecDepth 100000
def fm_trB (k : Nat) (m : sx_M) : sx_M := sx_sL m 23 (vp_updL (sx_L m 23) (8 + nI k).toNatClampNeg 0)
def fm_trC (p : Int32) (m : sx_M) : sx_M := sx_sL (sx_sL m 24 (vp_updL (sx_L m 24) (4 + p).toNatClampNeg 0)) 25 (vp_updL (sx_L m 25) (4 + p).toNatClampNeg 1)
def fm_tr0 (m : sx_M) (p : Int32) : sx_M := fm_trC p (it_up fm_trB 8 0 (sx_si m 16 1))
def fm_tries (m : sx_M) (p : Int32) : Int32 × sx_M := (if (fm_runs (fm_tr0 m p) p).1 = -2 then 0 else 1, sx_si (fm_runs (fm_tr0 m p) p).2 16 0)
theorem vp_in_8k {k : Nat} (hk : k < 8) : vp_in (8 + nI k) 16 := by
  rw [show (8 : Int32) = nI 8 from rfl, nI_add]
  exact vp_in_nI (by omega) (by decide)
theorem vp_in_4p {x : Int32} (hx : vp_in x 4) : vp_in (4 + x) 8 := by
  obtain ⟨j, hj, rfl⟩ := vp_in_of hx (by decide)
  rw [show (4 : Int32) = nI 4 from rfl, nI_add]
  exact vp_in_nI (by omega) (by decide)
theorem ly_X4_tries {G : pj_G} {d : Nat} {c : sx_C} {o : Nat → Int64} {D : pj_H} {Q : pj_O → pj_H → Prop} (p : Int32) (j : Nat) (s : sx_M) (hj : j < 8) (kk : pj_J G mX4_tries (d + 7) 7 [some (.ref 59), some (.int p), some (.int (nI j + 1))] [] (sx_mk c (fm_trB j s) o D) 0 0 Q) : pj_J G mX4_tries (d + 7) 7 [some (.ref 59), some (.int p), some (.int (nI j))] [] (sx_mk c s o D) 0 0 Q := by
  refine pj_J.go (oX4_tries G) 3 rfl trivial ?_
  refine pj_J.neg (nI_lt_lit hj (by decide)) ?_
  refine pj_J.go (oX4_tries G) 9 rfl ⟨by exact vp_in_8k hj, trivial⟩ ?_
  exact kk
theorem lz_X4_tries {G : pj_G} {d : Nat} {c : sx_C} {o : Nat → Int64} {D : pj_H} {Q : pj_O → pj_H → Prop} (p r : Int32) (m2 m3 : sx_M) (hp : vp_in p 4) (cr : pj_Rt G mX4_runs (d + 6) [.ref 59, .int p] (sx_mk c (fm_trC p m2) o D) 0 0 (some (.int r)) (sx_mk c m3 o D)) (q : Q (.inl (some (.int (if r = -2 then 0 else 1)))) (sx_mk c (sx_si m3 16 0) o D)) : pj_J G mX4_tries (d + 7) 7 [some (.ref 59), some (.int p), some (.int (nI 8))] [] (sx_mk c m2 o D) 0 0 Q := by
  refine pj_J.go (oX4_tries G) 3 rfl trivial ?_
  refine pj_J.pos (nI_ge_lit (Nat.le_refl _) (by decide)) ?_
  refine pj_J.go (oX4_tries G) 16 rfl ⟨by exact vp_in_4p hp, by exact vp_in_4p hp, trivial⟩ ?_
  refine pj_J.cal0 kX4_tries_49 cr ⟨_, _, _, rfl, rfl⟩ pj_le0 pj_le0 pj_le0 ?_
  refine pj_J.go (oX4_tries G) 7 rfl trivial ?_
  refine pj_J.ite (fun hc61 => ?_) (fun hc61 => ?_)
  · skip
    refine pj_J.go (oX4_tries G) 1 rfl trivial ?_
    first | (rw [if_pos hc61] at q; exact pj_zret dX4_tries_69 rfl (by first | exact Or.inl rfl | exact Or.inr rfl | exact pj_b01 _) q) | (rw [if_neg hc61] at q; exact pj_zret dX4_tries_69 rfl (by first | exact Or.inl rfl | exact Or.inr rfl | exact pj_b01 _) q)
  · skip
    refine pj_J.go (oX4_tries G) 2 rfl trivial ?_
    first | (rw [if_pos hc61] at q; exact pj_zret dX4_tries_69 rfl (by first | exact Or.inl rfl | exact Or.inr rfl | exact pj_b01 _) q) | (rw [if_neg hc61] at q; exact pj_zret dX4_tries_69 rfl (by first | exact Or.inl rfl | exact Or.inr rfl | exact pj_b01 _) q)
theorem c_X4_tries {G : pj_G} {d : Nat} {c : sx_C} {m : sx_M} {o : Nat → Int64} {D : pj_H} (p : Int32) (hp : vp_in p 4) (cr : pj_Rt G mX4_runs (d + 6) [.ref 59, .int p] (sx_mk c (fm_tr0 m p) o D) 0 0 (some (.int (fm_runs (fm_tr0 m p) p).1)) (sx_mk c (fm_runs (fm_tr0 m p) p).2 o D)) : pj_Rt G mX4_tries (d + 7) [.ref 59, .int p] (sx_mk c m o D) 0 0 (some (.int (fm_tries m p).1)) (sx_mk c (fm_tries m p).2 o D) := by
  refine pj_Cn.start ?_
  refine pj_J.go (oX4_tries G) 5 rfl trivial ?_
  exact pj_for (fun j s => pj_J G mX4_tries (d + 7) 7 [some (.ref 59), some (.int p), some (.int (nI j))] [] (sx_mk c s o D) 0 0 _) fm_trB (fun _ _ => True) 8 (fun j s hj hi => ⟨hi, fun kk => ly_X4_tries p j s hj (by rw [nI_add1]; exact kk)⟩) 8 0 (sx_si m 16 1) (by simp) trivial (fun hi => lz_X4_tries p _ _ _ hp cr ⟨rfl, rfl⟩)
def fm_taS (u : Int32) (m : sx_M) : sx_M := sx_sI (sx_si m 17 1) 18 (upd (sx_I m 18) 0 u)
theorem c_X4_triesAmount {G : pj_G} {d : Nat} {c : sx_C} {m : sx_M} {o : Nat → Int64} {D : pj_H} (p u r : Int32) (m1 : sx_M) (hr : r = 0 ∨ r = 1) (ct : pj_Rt G mX4_tries (d + 7) [.ref 59, .int p] (sx_mk c (fm_taS u m) o D) 0 0 (some (.int r)) (sx_mk c m1 o D)) : pj_Rt G mX4_triesAmount (d + 8) [.ref 59, .int p, .int u] (sx_mk c m o D) 0 0 (some (.int r)) (sx_mk c m1 o D) := by
  refine pj_Cn.start ?_
  refine pj_J.go (oX4_triesAmount G) 10 rfl ⟨by exact vp_in_lit (k := 0) (by decide), trivial⟩ ?_
  refine pj_J.cal0 kX4_triesAmount_14 ct ⟨_, _, _, rfl, rfl⟩ pj_le0 pj_le0 pj_le0 ?_
  exact pj_zret dX4_triesAmount_17 rfl hr ⟨rfl, rfl⟩
