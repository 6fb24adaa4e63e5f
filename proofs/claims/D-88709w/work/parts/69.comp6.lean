/-! PennyJudge: years, breaksLaw, firstBreak, least (by tools/gen_r2.py) -/
set_option maxRecDepth 100000
theorem lb_X1_years {G : pj_G} {d : Nat} {c : sx_C} {m : sx_M} {o : Nat → Int64} {D : pj_H} {Q : pj_O → pj_H → Prop} {p : Int32} {y k : Nat} (hy : y ≤ 40) (hk : k < y) (r : Int32) (c1 : sx_C) (D1 : pj_H) (cr : pj_Rt G mX1_run d [.ref 2, .int p] (sx_mk c m o D) 0 0 (some (.int r)) (sx_mk c1 m o D1)) (q : ¬ 0 ≤ r → Q (.inl (some (.int (nI k)))) (sx_mk c1 m o D1)) (kk : 0 ≤ r → pj_J G mX1_years (d + 1) 22 [some (.ref 2), some (.int p), some (.int (nI y)), some (.int (nI k + 1))] [] (sx_mk c1 m o D1) 0 0 Q) : pj_J G mX1_years (d + 1) 22 [some (.ref 2), some (.int p), some (.int (nI y)), some (.int (nI k))] [] (sx_mk c m o D) 0 0 Q := by
  refine pj_J.go (oX1_years G) 3 rfl trivial ?_
  refine pj_J.neg (nI_lt_lit hk (by omega)) ?_
  refine pj_J.go (oX1_years G) 2 rfl trivial ?_
  refine pj_J.cal0 kX1_years_29 (cr) ⟨_, _, _, rfl, rfl⟩ pj_le0 pj_le0 pj_le0 ?_
  refine pj_J.go (oX1_years G) 1 rfl trivial ?_
  refine pj_J.ite (fun hc32 => ?_) (fun hc32 => ?_)
  · skip
    refine pj_J.go (oX1_years G) 2 rfl trivial ?_
    exact kk hc32
  · skip
    refine pj_J.go (oX1_years G) 1 rfl trivial ?_
    exact pj_iret dX1_years_36 rfl (q hc32)
theorem lz_X1_years {G : pj_G} {d : Nat} {c : sx_C} {m : sx_M} {o : Nat → Int64} {D : pj_H} {Q : pj_O → pj_H → Prop} {p : Int32} {y : Nat} (hy : y ≤ 40) (q : Q (.inl (some (.int (nI y)))) (sx_mk c m o D)) : pj_J G mX1_years (d + 1) 22 [some (.ref 2), some (.int p), some (.int (nI y)), some (.int (nI y))] [] (sx_mk c m o D) 0 0 Q := by
  refine pj_J.go (oX1_years G) 3 rfl trivial ?_
  refine pj_J.pos (nI_ge_lit (Nat.le_refl _) (by omega)) ?_
  refine pj_J.go (oX1_years G) 1 rfl trivial ?_
  exact pj_iret dX1_years_44 rfl q
def fc_yrL (R : sx_C × pj_H → Int32 × sx_C × pj_H) : Nat → Nat → sx_C × pj_H → Int32 × sx_C × pj_H
  | 0, k, z => (nI k, z)
  | e + 1, k, z => if 0 ≤ (R z).1 then fc_yrL R e (k + 1) (R z).2 else (nI k, (R z).2)
theorem lp_X1_years {G : pj_G} {d : Nat} {m : sx_M} {o : Nat → Int64} {Q : pj_O → pj_H → Prop} {p : Int32} {y : Nat} (hy : y ≤ 40) (R : sx_C × pj_H → Int32 × sx_C × pj_H) (I : Nat → sx_C × pj_H → Prop) (hR : ∀ k z, k < y → I k z → pj_Rt G mX1_run d [.ref 2, .int p] (sx_mk z.1 m o z.2) 0 0 (some (.int (R z).1)) (sx_mk (R z).2.1 m o (R z).2.2) ∧ (0 ≤ (R z).1 → I (k + 1) (R z).2)) : ∀ (e k : Nat) (z : sx_C × pj_H), I k z → k + e = y → Q (.inl (some (.int (fc_yrL R e k z).1))) (sx_mk (fc_yrL R e k z).2.1 m o (fc_yrL R e k z).2.2) → pj_J G mX1_years (d + 1) 22 [some (.ref 2), some (.int p), some (.int (nI y)), some (.int (nI k))] [] (sx_mk z.1 m o z.2) 0 0 Q := by
  intro e
  induction e with
  | zero =>
    intro k z hi hk q
    have : k = y := by omega
    subst this
    exact lz_X1_years hy q
  | succ e ih =>
    intro k z hi hk q
    obtain ⟨h1, h2⟩ := hR k z (by omega) hi
    unfold fc_yrL at q
    refine lb_X1_years hy (by omega) _ _ _ h1 (fun h => ?_) (fun h => ?_)
    · rw [if_neg h] at q
      exact q
    · rw [if_pos h] at q
      rw [nI_add1]
      exact ih (k + 1) _ (h2 h) (by omega) q
theorem c_X1_years1 {G : pj_G} {d : Nat} {c : sx_C} {m : sx_M} {o : Nat → Int64} {D : pj_H} {p : Int32} {y : Nat} (hy : y ≤ 40) (h : ¬ fc_isProgram c.1 p = 0) (R : sx_C × pj_H → Int32 × sx_C × pj_H) (I : Nat → sx_C × pj_H → Prop) (hI : I 0 (c, D)) (hR : ∀ k z, k < y → I k z → pj_Rt G mX1_run d [.ref 2, .int p] (sx_mk z.1 m o z.2) 0 0 (some (.int (R z).1)) (sx_mk (R z).2.1 m o (R z).2.2) ∧ (0 ≤ (R z).1 → I (k + 1) (R z).2)) : pj_Rt G mX1_years (d + 1) [.ref 2, .int p, .int (nI y)] (sx_mk c m o D) 0 0 (some (.int (fc_yrL R y 0 (c, D)).1)) (sx_mk (fc_yrL R y 0 (c, D)).2.1 m o (fc_yrL R y 0 (c, D)).2.2) := by
  refine pj_Cn.start ?_
  refine pj_J.go (oX1_years G) 2 rfl trivial ?_
  refine pj_J.cal0 kX1_years_2 (c_X1_isProgram (c := c) p) ⟨_, _, _, rfl, rfl⟩ pj_le0 pj_le0 pj_le0 ?_
  refine pj_J.go (oX1_years G) 1 rfl trivial ?_
  refine pj_J.neg (h) ?_
  refine pj_J.go (oX1_years G) 2 rfl trivial ?_
  refine pj_J.neg (nI_nn (by omega)) ?_
  refine pj_J.go (oX1_years G) 3 rfl trivial ?_
  refine pj_J.pos (nI_le (b := 40) hy (by decide)) ?_
  refine pj_J.go (oX1_years G) 2 rfl trivial ?_
  refine lp_X1_years hy R I hR y 0 (c, D) hI (by omega) ?_
  exact ⟨rfl, rfl⟩
theorem c_X1_years0 {G : pj_G} {d : Nat} {c : sx_C} {m : sx_M} {o : Nat → Int64} {D : pj_H} (p y : Int32) (h : fc_isProgram c.1 p = 0 ∨ y < 0 ∨ ¬ y ≤ 40) : pj_Rt G mX1_years (d + 1) [.ref 2, .int p, .int y] (sx_mk c m o D) 0 0 (some (.int (-1))) (sx_mk c m o D) := by
  refine pj_Cn.start ?_
  refine pj_J.go (oX1_years G) 2 rfl trivial ?_
  refine pj_J.cal0 kX1_years_2 (c_X1_isProgram (c := c) p) ⟨_, _, _, rfl, rfl⟩ pj_le0 pj_le0 pj_le0 ?_
  refine pj_J.go (oX1_years G) 1 rfl trivial ?_
  refine pj_J.ite (fun hc5 => ?_) (fun hc5 => ?_)
  · skip
    refine pj_J.go (oX1_years G) 1 rfl trivial ?_
    exact pj_iret dX1_years_19 rfl ⟨rfl, rfl⟩
  · skip
    refine pj_J.go (oX1_years G) 2 rfl trivial ?_
    refine pj_J.ite (fun hc9 => ?_) (fun hc9 => ?_)
    · skip
      refine pj_J.go (oX1_years G) 1 rfl trivial ?_
      exact pj_iret dX1_years_19 rfl ⟨rfl, rfl⟩
    · skip
      refine pj_J.go (oX1_years G) 3 rfl trivial ?_
      refine pj_J.ite (fun hc15 => ?_) (fun hc15 => ?_)
      · skip
        refine pj_J.go (oX1_years G) 2 rfl trivial ?_
        exfalso
        rcases h with h | h | h
        · exact hc5 h
        · exact hc9 h
        · exact h hc15
      · skip
        refine pj_J.go (oX1_years G) 1 rfl trivial ?_
        exact pj_iret dX1_years_19 rfl ⟨rfl, rfl⟩
def fc_bsB (u : sx_M) (k : Nat) (s : Int64) : Int64 := s + sx_L u 12 (nI k).toNatClampNeg
def fc_bsum (u : sx_M) : Int64 := it_up (fc_bsB u) 8 0 0
theorem ly_bsN {G : pj_G} {d : Nat} {c : sx_C} {m : sx_M} {o : Nat → Int64} {D : pj_H} {Q : pj_O → pj_H → Prop} {pi : Nat} (law x r : Int32) (s : Int64) (k : Nat) (hk : k < 8) (kk : pj_J G mX1_breaksLaw (d + 6) 58 [some (.ref 2), some (.ref (pi + 98)), some (.int law), some .null, some (.int x), some (.int r), some (.long (fc_bsB (sx_R c 1) k s)), none, some (.int (nI k + 1)), none] [] (sx_mk c m o D) 0 0 Q) : pj_J G mX1_breaksLaw (d + 6) 58 [some (.ref 2), some (.ref (pi + 98)), some (.int law), some .null, some (.int x), some (.int r), some (.long s), none, some (.int (nI k)), none] [] (sx_mk c m o D) 0 0 Q := by
  refine pj_J.go (oX1_breaksLaw G) 3 rfl trivial ?_
  refine pj_J.neg (nI_lt_lit hk (by decide)) ?_
  refine pj_J.go (oX1_breaksLaw G) 10 rfl ⟨by exact vp_in_lit hk, trivial⟩ ?_
  exact kk
theorem lz_bsN {G : pj_G} {d : Nat} {c : sx_C} {m : sx_M} {o : Nat → Int64} {D : pj_H} {Q : pj_O → pj_H → Prop} {pi : Nat} (law x r : Int32) (s : Int64) (q : Q (.inl (some (.int (if r = 0 then 0 else if s = 0 then 0 else 1)))) (sx_mk c m o D)) : pj_J G mX1_breaksLaw (d + 6) 58 [some (.ref 2), some (.ref (pi + 98)), some (.int law), some .null, some (.int x), some (.int r), some (.long s), none, some (.int (nI 8)), none] [] (sx_mk c m o D) 0 0 Q := by
  refine pj_J.go (oX1_breaksLaw G) 3 rfl trivial ?_
  refine pj_J.pos (nI_ge_lit (Nat.le_refl _) (by decide)) ?_
  refine pj_J.go (oX1_breaksLaw G) 2 rfl trivial ?_
  refine pj_J.ite (fun hc88 => ?_) (fun hc88 => ?_)
  · skip
    refine pj_J.go (oX1_breaksLaw G) 1 rfl trivial ?_
    rw [if_pos (show r = (0 : Int32) from hc88)] at q
    exact pj_zret dX1_breaksLaw_103 rfl (by first | exact Or.inl rfl | exact Or.inr rfl | exact pj_b01 _ | assumption) q
  · skip
    refine pj_J.go (oX1_breaksLaw G) 4 rfl trivial ?_
    refine pj_J.ite (fun hc95 => ?_) (fun hc95 => ?_)
    · simp only [pj_lc_eq] at hc95
      refine pj_J.go (oX1_breaksLaw G) 1 rfl trivial ?_
      rw [if_neg (show ¬ (r = (0 : Int32)) from hc88), if_pos (show s = (0 : Int64) from hc95)] at q
      exact pj_zret dX1_breaksLaw_103 rfl (by first | exact Or.inl rfl | exact Or.inr rfl | exact pj_b01 _ | assumption) q
    · simp only [pj_lc_eq] at hc95
      refine pj_J.go (oX1_breaksLaw G) 2 rfl trivial ?_
      rw [if_neg (show ¬ (r = (0 : Int32)) from hc88), if_neg (show ¬ (s = (0 : Int64)) from hc95)] at q
      exact pj_zret dX1_breaksLaw_103 rfl (by first | exact Or.inl rfl | exact Or.inr rfl | exact pj_b01 _ | assumption) q
def fc_al2 (u y : sx_M) (sg : Int32) : Nat → Nat → Int32
  | 0, _ => 1
  | e + 1, k => if sx_L u 12 (nI k).toNatClampNeg = sg.toInt64 * sx_L y 12 (nI k).toNatClampNeg then fc_al2 u y sg e (k + 1) else 0
def fc_alike2 (u y : sx_M) (sg : Int32) : Int32 := fc_al2 u y sg 8 0
theorem fc_alike_eq (c : sx_C) (sg : Int32) : fc_alike c sg = fc_alike2 (sx_R c 1) (sx_R c 2) sg := by
  unfold fc_alike fc_alike2
  have : ∀ e k, fc_alL c sg e k = fc_al2 (sx_R c 1) (sx_R c 2) sg e k := by
    intro e
    induction e with
    | zero => intro k; rfl
    | succ e ih =>
      intro k
      unfold fc_alL fc_al2
      rw [ih]
  exact this 8 0
theorem c_X1_alike2 {G : pj_G} {d : Nat} {c : sx_C} {m : sx_M} {o : Nat → Int64} {D : pj_H} (sg : Int32) : pj_Rt G mX1_alike d [.ref 2, .int sg] (sx_mk c m o D) 0 0 (some (.int (fc_alike2 (sx_R c 1) (sx_R c 2) sg))) (sx_mk c m o D) := by
  rw [← fc_alike_eq]
  exact c_X1_alike sg
theorem fc_alike2_01 (u y : sx_M) (sg : Int32) : fc_alike2 u y sg = 0 ∨ fc_alike2 u y sg = 1 := by
  have := fc_alike01 (u, (fun j => if j = 1 then u else y), (fun _ => none), (fun _ => none)) sg
  rw [fc_alike_eq] at this
  exact this
def fc_far2 (w u : sx_M) : Int32 := fc_farShare (w, (fun _ => u), (fun _ => none), (fun _ => none))
def fc_farOk (w u : sx_M) : Prop := (¬ 0 ≤ sx_i u 5) ∨ (vp_in (sx_i u 5) 4 ∧ ∀ k, k < 4 → vp_in (sx_I w 5 k) 9)
theorem fc_far_eq (c : sx_C) : fc_farShare c = fc_far2 c.1 (sx_R c 1) := by
  unfold fc_far2 fc_farShare
  have : ∀ s w e k, fc_fsL c s w e k = fc_fsL (c.1, (fun _ => sx_R c 1), (fun _ => none), (fun _ => none)) s w e k := by
    intro s w e
    induction e with
    | zero => intro k; rfl
    | succ e ih =>
      intro k
      unfold fc_fsL
      rw [ih]
      rfl
  rw [this]
theorem fc_far {G : pj_G} {d : Nat} {c : sx_C} {m : sx_M} {o : Nat → Int64} {D : pj_H} (h : fc_farOk c.1 (sx_R c 1)) : pj_Rt G mX1_farShare (d + 1) [.ref 2] (sx_mk c m o D) 0 0 (some (.int (fc_far2 c.1 (sx_R c 1)))) (sx_mk c m o D) := by
  rw [← fc_far_eq]
  rcases h with h | h
  · exact c_X1_farShare0 h
  · exact c_X1_farShare1 h.1 h.2
def fc_brkN (FL : sx_M → sx_M → sx_M × sx_M) (A : fp_A) (n : Nat) (w u y : sx_M) (law x : Int32) : Int32 × sx_M × sx_M × sx_M := if law = (0 : Int32) then (if (fc_runs A n w u x).1 = 0 then 0 else if fc_bsum ((fc_runs A n w u x).2.2) = 0 then 0 else 1, ((fc_runs A n w u x).2.1), ((fc_runs A n w u x).2.2), y) else (if law = (1 : Int32) then (if (fc_runs A n w u x).1 = (fc_runs A n ((fc_runs A n w u x).2.1) y (-x)).1 then (if (fc_runs A n w u x).1 = (0 : Int32) then ((0 : Int32), ((fc_runs A n ((fc_runs A n w u x).2.1) y (-x)).2.1), ((fc_runs A n w u x).2.2), ((fc_runs A n ((fc_runs A n w u x).2.1) y (-x)).2.2)) else (if (fc_alike2 ((fc_runs A n w u x).2.2) ((fc_runs A n ((fc_runs A n w u x).2.1) y (-x)).2.2) (-1 : Int32)) = (0 : Int32) then ((1 : Int32), ((fc_runs A n ((fc_runs A n w u x).2.1) y (-x)).2.1), ((fc_runs A n w u x).2.2), ((fc_runs A n ((fc_runs A n w u x).2.1) y (-x)).2.2)) else ((0 : Int32), ((fc_runs A n ((fc_runs A n w u x).2.1) y (-x)).2.1), ((fc_runs A n w u x).2.2), ((fc_runs A n ((fc_runs A n w u x).2.1) y (-x)).2.2)))) else ((1 : Int32), ((fc_runs A n ((fc_runs A n w u x).2.1) y (-x)).2.1), ((fc_runs A n w u x).2.2), ((fc_runs A n ((fc_runs A n w u x).2.1) y (-x)).2.2))) else (if law = (3 : Int32) then (if (fc_runs A n w u x).1 = (0 : Int32) then ((0 : Int32), ((fc_runs A n w u x).2.1), ((fc_runs A n w u x).2.2), y) else (if (fc_far2 ((fc_runs A n w u x).2.1) ((fc_runs A n w u x).2.2)) = (0 : Int32) then ((0 : Int32), ((fc_runs A n w u x).2.1), ((fc_runs A n w u x).2.2), y) else ((1 : Int32), ((fc_runs A n w u x).2.1), ((fc_runs A n w u x).2.2), y))) else (if law = (4 : Int32) then (if (fc_runs A n w u x).1 = (0 : Int32) then ((1 : Int32), ((fc_runs A n w u x).2.1), ((fc_runs A n w u x).2.2), y) else ((0 : Int32), ((fc_runs A n w u x).2.1), ((fc_runs A n w u x).2.2), y)) else (if law = (5 : Int32) then (if (fc_runs A n w u x).1 = (0 : Int32) then ((0 : Int32), ((fc_runs A n w u x).2.1), ((fc_runs A n w u x).2.2), y) else (if (sx_i ((fc_runs A n w u x).2.2) 13) ≤ (0 : Int32) then ((0 : Int32), ((fc_runs A n w u x).2.1), ((fc_runs A n w u x).2.2), y) else ((1 : Int32), ((fc_runs A n w u x).2.1), ((fc_runs A n w u x).2.2), y))) else (if (fc_runs A n w u x).1 = (0 : Int32) then ((0 : Int32), ((fc_runs A n w u x).2.1), ((fc_runs A n w u x).2.2), y) else (if (fc_alike2 ((fc_runs A n w u x).2.2) ((FL (sx_sI ((fc_runs A n w u x).2.1) 18 (upd (sx_I ((fc_runs A n w u x).2.1) 18) (0 : Int32).toNatClampNeg x)) (fr_bare (fr_bill y (sx_I (sx_sI ((fc_runs A n w u x).2.1) 18 (upd (sx_I ((fc_runs A n w u x).2.1) 18) (0 : Int32).toNatClampNeg x)) 18) 1))).2) (1 : Int32)) = (0 : Int32) then ((1 : Int32), ((FL (sx_sI ((fc_runs A n w u x).2.1) 18 (upd (sx_I ((fc_runs A n w u x).2.1) 18) (0 : Int32).toNatClampNeg x)) (fr_bare (fr_bill y (sx_I (sx_sI ((fc_runs A n w u x).2.1) 18 (upd (sx_I ((fc_runs A n w u x).2.1) 18) (0 : Int32).toNatClampNeg x)) 18) 1))).1), ((fc_runs A n w u x).2.2), ((FL (sx_sI ((fc_runs A n w u x).2.1) 18 (upd (sx_I ((fc_runs A n w u x).2.1) 18) (0 : Int32).toNatClampNeg x)) (fr_bare (fr_bill y (sx_I (sx_sI ((fc_runs A n w u x).2.1) 18 (upd (sx_I ((fc_runs A n w u x).2.1) 18) (0 : Int32).toNatClampNeg x)) 18) 1))).2)) else ((0 : Int32), ((FL (sx_sI ((fc_runs A n w u x).2.1) 18 (upd (sx_I ((fc_runs A n w u x).2.1) 18) (0 : Int32).toNatClampNeg x)) (fr_bare (fr_bill y (sx_I (sx_sI ((fc_runs A n w u x).2.1) 18 (upd (sx_I ((fc_runs A n w u x).2.1) 18) (0 : Int32).toNatClampNeg x)) 18) 1))).1), ((fc_runs A n w u x).2.2), ((FL (sx_sI ((fc_runs A n w u x).2.1) 18 (upd (sx_I ((fc_runs A n w u x).2.1) 18) (0 : Int32).toNatClampNeg x)) (fr_bare (fr_bill y (sx_I (sx_sI ((fc_runs A n w u x).2.1) 18 (upd (sx_I ((fc_runs A n w u x).2.1) 18) (0 : Int32).toNatClampNeg x)) 18) 1))).2))))))))
def fc_brkNOk (FO : sx_M → sx_M → Prop) (FL : sx_M → sx_M → sx_M × sx_M) (A : fp_A) (n : Nat) (w u y : sx_M) (law x : Int32) : Prop := (fc_runsOk A n w u x) ∧ (¬ (law = (0 : Int32)) → law = (1 : Int32) → fc_runsOk A n ((fc_runs A n w u x).2.1) y (-x)) ∧ (¬ (law = (0 : Int32)) → ¬ (law = (1 : Int32)) → law = (3 : Int32) → ¬ ((fc_runs A n w u x).1 = (0 : Int32)) → fc_farOk ((fc_runs A n w u x).2.1) ((fc_runs A n w u x).2.2)) ∧ (¬ (law = (0 : Int32)) → ¬ (law = (1 : Int32)) → ¬ (law = (3 : Int32)) → ¬ (law = (4 : Int32)) → ¬ (law = (5 : Int32)) → ¬ ((fc_runs A n w u x).1 = (0 : Int32)) → FO (sx_sI ((fc_runs A n w u x).2.1) 18 (upd (sx_I ((fc_runs A n w u x).2.1) 18) (0 : Int32).toNatClampNeg x)) (fr_bare (fr_bill y (sx_I (sx_sI ((fc_runs A n w u x).2.1) 18 (upd (sx_I ((fc_runs A n w u x).2.1) 18) (0 : Int32).toNatClampNeg x)) 18) 1))) ∧ True
theorem c_X1_breaksLawN {G : pj_G} {d : Nat} {c : sx_C} {m : sx_M} {o : Nat → Int64} {D : pj_H} (FL : sx_M → sx_M → sx_M × sx_M) {pi n : Nat} {A : fp_A} {cn cd : Int64} (hP : fp_prog D pi n A cn cd) (law x : Int32) (hl2 : ¬ law = 2) (FO : sx_M → sx_M → Prop) (cl : ∀ c : sx_C, FO c.1 (sx_R c 2) → pj_Rt G mX5_loosely (d + 5) [.ref (pi + 98), .ref 32] (sx_mk c m o D) 0 0 none (sx_mk (sx_sR (sx_sM c (FL c.1 (sx_R c 2)).1) 2 (FL c.1 (sx_R c 2)).2) m o D)) (hO : fc_brkNOk FO FL A n c.1 (sx_R c 1) (sx_R c 2) law x) : pj_Rt G mX1_breaksLaw (d + 6) [.ref 2, .ref (pi + 98), .int law, .null, .int x] (sx_mk c m o D) 0 0 (some (.int (fc_brkN FL A n c.1 (sx_R c 1) (sx_R c 2) law x).1)) (sx_mk (sx_sR (sx_sR (sx_sM c (fc_brkN FL A n c.1 (sx_R c 1) (sx_R c 2) law x).2.1) 1 (fc_brkN FL A n c.1 (sx_R c 1) (sx_R c 2) law x).2.2.1) 2 (fc_brkN FL A n c.1 (sx_R c 1) (sx_R c 2) law x).2.2.2) m o D) := by
  refine pj_Cn.start ?_
  refine pj_J.go (oX1_breaksLaw G) 5 rfl trivial ?_
  refine pj_J.cal0 kX1_breaksLaw_8 (c_X1_runs_1 (c := c) hP x (hO.1)) ⟨_, _, _, rfl, rfl⟩ pj_le0 pj_le0 pj_le0 ?_
  refine pj_J.go (oX1_breaksLaw G) 3 rfl trivial ?_
  refine pj_J.swc (fun hs14_0 => ?_) (fun hs14_0 => ?_)
  · skip
    refine pj_J.go (oX1_breaksLaw G) 4 rfl trivial ?_
    refine pj_for (σ := Int64) (fun (k : Nat) (s : Int64) => pj_J G mX1_breaksLaw (d + 6) 58 [some (.ref 2), some (.ref (pi + 98)), some (.int law), some .null, some (.int x), some (.int ((fc_runs A n c.1 (sx_R c 1) x).1)), some (.long s), none, some (.int (nI k)), none] [] (sx_mk (sx_sR (sx_sM c ((fc_runs A n c.1 (sx_R c 1) x).2.1)) 1 ((fc_runs A n c.1 (sx_R c 1) x).2.2)) m o D) 0 0 _) (fc_bsB ((fc_runs A n c.1 (sx_R c 1) x).2.2)) (fun _ _ => True) 8 (fun k s hk hi => ⟨hi, fun kk => ly_bsN (c := (sx_sR (sx_sM c ((fc_runs A n c.1 (sx_R c 1) x).2.1)) 1 ((fc_runs A n c.1 (sx_R c 1) x).2.2))) law x _ s k hk (by rw [nI_add1]; exact kk)⟩) 8 0 0 (by simp) trivial (fun _ => lz_bsN (c := (sx_sR (sx_sM c ((fc_runs A n c.1 (sx_R c 1) x).2.1)) 1 ((fc_runs A n c.1 (sx_R c 1) x).2.2))) law x _ _ ?_)
    show _ = _ ∧ _ = _
    have e : fc_brkN FL A n c.1 (sx_R c 1) (sx_R c 2) law x = (if (fc_runs A n c.1 (sx_R c 1) x).1 = 0 then 0 else if fc_bsum ((fc_runs A n c.1 (sx_R c 1) x).2.2) = 0 then 0 else 1, ((fc_runs A n c.1 (sx_R c 1) x).2.1), ((fc_runs A n c.1 (sx_R c 1) x).2.2), (sx_R c 2)) := by unfold fc_brkN; rw [if_pos (show law = (0 : Int32) from hs14_0)]
    rw [e]
    exact ⟨rfl, rfl⟩
  refine pj_J.swc (fun hs14_1 => ?_) (fun hs14_1 => ?_)
  · skip
    refine pj_J.go (oX1_breaksLaw G) 6 rfl trivial ?_
    refine pj_J.cal0 kX1_breaksLaw_113 (c_X1_runs_2 (c := (sx_sR (sx_sM c ((fc_runs A n c.1 (sx_R c 1) x).2.1)) 1 ((fc_runs A n c.1 (sx_R c 1) x).2.2))) hP (-x) (hO.2.1 hs14_0 hs14_1)) ⟨_, _, _, rfl, rfl⟩ pj_le0 pj_le0 pj_le0 ?_
    refine pj_J.go (oX1_breaksLaw G) 4 rfl trivial ?_
    refine pj_J.ite (fun hc122 => ?_) (fun hc122 => ?_)
    · skip
      refine pj_J.go (oX1_breaksLaw G) 2 rfl trivial ?_
      refine pj_J.ite (fun hc127 => ?_) (fun hc127 => ?_)
      · skip
        refine pj_J.go (oX1_breaksLaw G) 1 rfl trivial ?_
        refine pj_zret dX1_breaksLaw_143 rfl (by first | exact Or.inl rfl | exact Or.inr rfl | exact pj_b01 _ | assumption) ?_
        show _ = _ ∧ _ = _
        have e : fc_brkN FL A n c.1 (sx_R c 1) (sx_R c 2) law x = ((0 : Int32), ((fc_runs A n ((fc_runs A n c.1 (sx_R c 1) x).2.1) (sx_R c 2) (-x)).2.1), ((fc_runs A n c.1 (sx_R c 1) x).2.2), ((fc_runs A n ((fc_runs A n c.1 (sx_R c 1) x).2.1) (sx_R c 2) (-x)).2.2)) := by unfold fc_brkN; rw [if_neg (show ¬ (law = (0 : Int32)) from hs14_0), if_pos (show law = (1 : Int32) from hs14_1), if_pos (show (fc_runs A n c.1 (sx_R c 1) x).1 = (fc_runs A n ((fc_runs A n c.1 (sx_R c 1) x).2.1) (sx_R c 2) (-x)).1 from hc122), if_pos (show (fc_runs A n c.1 (sx_R c 1) x).1 = (0 : Int32) from hc127)]
        rw [e]
        exact ⟨rfl, rfl⟩
      · skip
        refine pj_J.go (oX1_breaksLaw G) 2 rfl trivial ?_
        refine pj_J.cal0 kX1_breaksLaw_132 (c_X1_alike2 (c := (sx_sR (sx_sR (sx_sM c ((fc_runs A n ((fc_runs A n c.1 (sx_R c 1) x).2.1) (sx_R c 2) (-x)).2.1)) 1 ((fc_runs A n c.1 (sx_R c 1) x).2.2)) 2 ((fc_runs A n ((fc_runs A n c.1 (sx_R c 1) x).2.1) (sx_R c 2) (-x)).2.2))) (-1 : Int32)) ⟨_, _, _, rfl, rfl⟩ pj_le0 pj_le0 pj_le0 ?_
        refine pj_J.go (oX1_breaksLaw G) 1 rfl trivial ?_
        refine pj_J.ite (fun hc135 => ?_) (fun hc135 => ?_)
        · skip
          refine pj_J.go (oX1_breaksLaw G) 2 rfl trivial ?_
          refine pj_zret dX1_breaksLaw_143 rfl (by first | exact Or.inl rfl | exact Or.inr rfl | exact pj_b01 _ | assumption) ?_
          show _ = _ ∧ _ = _
          have e : fc_brkN FL A n c.1 (sx_R c 1) (sx_R c 2) law x = ((1 : Int32), ((fc_runs A n ((fc_runs A n c.1 (sx_R c 1) x).2.1) (sx_R c 2) (-x)).2.1), ((fc_runs A n c.1 (sx_R c 1) x).2.2), ((fc_runs A n ((fc_runs A n c.1 (sx_R c 1) x).2.1) (sx_R c 2) (-x)).2.2)) := by unfold fc_brkN; rw [if_neg (show ¬ (law = (0 : Int32)) from hs14_0), if_pos (show law = (1 : Int32) from hs14_1), if_pos (show (fc_runs A n c.1 (sx_R c 1) x).1 = (fc_runs A n ((fc_runs A n c.1 (sx_R c 1) x).2.1) (sx_R c 2) (-x)).1 from hc122), if_neg (show ¬ ((fc_runs A n c.1 (sx_R c 1) x).1 = (0 : Int32)) from hc127), if_pos (show (fc_alike2 ((fc_runs A n c.1 (sx_R c 1) x).2.2) ((fc_runs A n ((fc_runs A n c.1 (sx_R c 1) x).2.1) (sx_R c 2) (-x)).2.2) (-1 : Int32)) = (0 : Int32) from hc135)]
          rw [e]
          exact ⟨rfl, rfl⟩
        · skip
          refine pj_J.go (oX1_breaksLaw G) 1 rfl trivial ?_
          refine pj_zret dX1_breaksLaw_143 rfl (by first | exact Or.inl rfl | exact Or.inr rfl | exact pj_b01 _ | assumption) ?_
          show _ = _ ∧ _ = _
          have e : fc_brkN FL A n c.1 (sx_R c 1) (sx_R c 2) law x = ((0 : Int32), ((fc_runs A n ((fc_runs A n c.1 (sx_R c 1) x).2.1) (sx_R c 2) (-x)).2.1), ((fc_runs A n c.1 (sx_R c 1) x).2.2), ((fc_runs A n ((fc_runs A n c.1 (sx_R c 1) x).2.1) (sx_R c 2) (-x)).2.2)) := by unfold fc_brkN; rw [if_neg (show ¬ (law = (0 : Int32)) from hs14_0), if_pos (show law = (1 : Int32) from hs14_1), if_pos (show (fc_runs A n c.1 (sx_R c 1) x).1 = (fc_runs A n ((fc_runs A n c.1 (sx_R c 1) x).2.1) (sx_R c 2) (-x)).1 from hc122), if_neg (show ¬ ((fc_runs A n c.1 (sx_R c 1) x).1 = (0 : Int32)) from hc127), if_neg (show ¬ ((fc_alike2 ((fc_runs A n c.1 (sx_R c 1) x).2.2) ((fc_runs A n ((fc_runs A n c.1 (sx_R c 1) x).2.1) (sx_R c 2) (-x)).2.2) (-1 : Int32)) = (0 : Int32)) from hc135)]
          rw [e]
          exact ⟨rfl, rfl⟩
    · skip
      refine pj_J.go (oX1_breaksLaw G) 2 rfl trivial ?_
      refine pj_zret dX1_breaksLaw_143 rfl (by first | exact Or.inl rfl | exact Or.inr rfl | exact pj_b01 _ | assumption) ?_
      show _ = _ ∧ _ = _
      have e : fc_brkN FL A n c.1 (sx_R c 1) (sx_R c 2) law x = ((1 : Int32), ((fc_runs A n ((fc_runs A n c.1 (sx_R c 1) x).2.1) (sx_R c 2) (-x)).2.1), ((fc_runs A n c.1 (sx_R c 1) x).2.2), ((fc_runs A n ((fc_runs A n c.1 (sx_R c 1) x).2.1) (sx_R c 2) (-x)).2.2)) := by unfold fc_brkN; rw [if_neg (show ¬ (law = (0 : Int32)) from hs14_0), if_pos (show law = (1 : Int32) from hs14_1), if_neg (show ¬ ((fc_runs A n c.1 (sx_R c 1) x).1 = (fc_runs A n ((fc_runs A n c.1 (sx_R c 1) x).2.1) (sx_R c 2) (-x)).1) from hc122)]
      rw [e]
      exact ⟨rfl, rfl⟩
  refine pj_J.swc (fun h => absurd h (hl2)) (fun _ => ?_)
  refine pj_J.swc (fun hs14_3 => ?_) (fun hs14_3 => ?_)
  · skip
    refine pj_J.go (oX1_breaksLaw G) 2 rfl trivial ?_
    refine pj_J.ite (fun hc185 => ?_) (fun hc185 => ?_)
    · skip
      refine pj_J.go (oX1_breaksLaw G) 1 rfl trivial ?_
      refine pj_zret dX1_breaksLaw_200 rfl (by first | exact Or.inl rfl | exact Or.inr rfl | exact pj_b01 _ | assumption) ?_
      show _ = _ ∧ _ = _
      have e : fc_brkN FL A n c.1 (sx_R c 1) (sx_R c 2) law x = ((0 : Int32), ((fc_runs A n c.1 (sx_R c 1) x).2.1), ((fc_runs A n c.1 (sx_R c 1) x).2.2), (sx_R c 2)) := by unfold fc_brkN; rw [if_neg (show ¬ (law = (0 : Int32)) from hs14_0), if_neg (show ¬ (law = (1 : Int32)) from hs14_1), if_pos (show law = (3 : Int32) from hs14_3), if_pos (show (fc_runs A n c.1 (sx_R c 1) x).1 = (0 : Int32) from hc185)]
      rw [e]
      exact ⟨rfl, rfl⟩
    · skip
      refine pj_J.go (oX1_breaksLaw G) 1 rfl trivial ?_
      refine pj_J.cal0 kX1_breaksLaw_189 (fc_far (c := (sx_sR (sx_sM c ((fc_runs A n c.1 (sx_R c 1) x).2.1)) 1 ((fc_runs A n c.1 (sx_R c 1) x).2.2))) (hO.2.2.1 hs14_0 hs14_1 hs14_3 hc185)) ⟨_, _, _, rfl, rfl⟩ pj_le0 pj_le0 pj_le0 ?_
      refine pj_J.go (oX1_breaksLaw G) 1 rfl trivial ?_
      refine pj_J.ite (fun hc192 => ?_) (fun hc192 => ?_)
      · skip
        refine pj_J.go (oX1_breaksLaw G) 1 rfl trivial ?_
        refine pj_zret dX1_breaksLaw_200 rfl (by first | exact Or.inl rfl | exact Or.inr rfl | exact pj_b01 _ | assumption) ?_
        show _ = _ ∧ _ = _
        have e : fc_brkN FL A n c.1 (sx_R c 1) (sx_R c 2) law x = ((0 : Int32), ((fc_runs A n c.1 (sx_R c 1) x).2.1), ((fc_runs A n c.1 (sx_R c 1) x).2.2), (sx_R c 2)) := by unfold fc_brkN; rw [if_neg (show ¬ (law = (0 : Int32)) from hs14_0), if_neg (show ¬ (law = (1 : Int32)) from hs14_1), if_pos (show law = (3 : Int32) from hs14_3), if_neg (show ¬ ((fc_runs A n c.1 (sx_R c 1) x).1 = (0 : Int32)) from hc185), if_pos (show (fc_far2 ((fc_runs A n c.1 (sx_R c 1) x).2.1) ((fc_runs A n c.1 (sx_R c 1) x).2.2)) = (0 : Int32) from hc192)]
        rw [e]
        exact ⟨rfl, rfl⟩
      · skip
        refine pj_J.go (oX1_breaksLaw G) 2 rfl trivial ?_
        refine pj_zret dX1_breaksLaw_200 rfl (by first | exact Or.inl rfl | exact Or.inr rfl | exact pj_b01 _ | assumption) ?_
        show _ = _ ∧ _ = _
        have e : fc_brkN FL A n c.1 (sx_R c 1) (sx_R c 2) law x = ((1 : Int32), ((fc_runs A n c.1 (sx_R c 1) x).2.1), ((fc_runs A n c.1 (sx_R c 1) x).2.2), (sx_R c 2)) := by unfold fc_brkN; rw [if_neg (show ¬ (law = (0 : Int32)) from hs14_0), if_neg (show ¬ (law = (1 : Int32)) from hs14_1), if_pos (show law = (3 : Int32) from hs14_3), if_neg (show ¬ ((fc_runs A n c.1 (sx_R c 1) x).1 = (0 : Int32)) from hc185), if_neg (show ¬ ((fc_far2 ((fc_runs A n c.1 (sx_R c 1) x).2.1) ((fc_runs A n c.1 (sx_R c 1) x).2.2)) = (0 : Int32)) from hc192)]
        rw [e]
        exact ⟨rfl, rfl⟩
  refine pj_J.swc (fun hs14_4 => ?_) (fun hs14_4 => ?_)
  · skip
    refine pj_J.go (oX1_breaksLaw G) 2 rfl trivial ?_
    refine pj_J.ite (fun hc203 => ?_) (fun hc203 => ?_)
    · skip
      refine pj_J.go (oX1_breaksLaw G) 2 rfl trivial ?_
      refine pj_zret dX1_breaksLaw_211 rfl (by first | exact Or.inl rfl | exact Or.inr rfl | exact pj_b01 _ | assumption) ?_
      show _ = _ ∧ _ = _
      have e : fc_brkN FL A n c.1 (sx_R c 1) (sx_R c 2) law x = ((1 : Int32), ((fc_runs A n c.1 (sx_R c 1) x).2.1), ((fc_runs A n c.1 (sx_R c 1) x).2.2), (sx_R c 2)) := by unfold fc_brkN; rw [if_neg (show ¬ (law = (0 : Int32)) from hs14_0), if_neg (show ¬ (law = (1 : Int32)) from hs14_1), if_neg (show ¬ (law = (3 : Int32)) from hs14_3), if_pos (show law = (4 : Int32) from hs14_4), if_pos (show (fc_runs A n c.1 (sx_R c 1) x).1 = (0 : Int32) from hc203)]
      rw [e]
      exact ⟨rfl, rfl⟩
    · skip
      refine pj_J.go (oX1_breaksLaw G) 1 rfl trivial ?_
      refine pj_zret dX1_breaksLaw_211 rfl (by first | exact Or.inl rfl | exact Or.inr rfl | exact pj_b01 _ | assumption) ?_
      show _ = _ ∧ _ = _
      have e : fc_brkN FL A n c.1 (sx_R c 1) (sx_R c 2) law x = ((0 : Int32), ((fc_runs A n c.1 (sx_R c 1) x).2.1), ((fc_runs A n c.1 (sx_R c 1) x).2.2), (sx_R c 2)) := by unfold fc_brkN; rw [if_neg (show ¬ (law = (0 : Int32)) from hs14_0), if_neg (show ¬ (law = (1 : Int32)) from hs14_1), if_neg (show ¬ (law = (3 : Int32)) from hs14_3), if_pos (show law = (4 : Int32) from hs14_4), if_neg (show ¬ ((fc_runs A n c.1 (sx_R c 1) x).1 = (0 : Int32)) from hc203)]
      rw [e]
      exact ⟨rfl, rfl⟩
  refine pj_J.swc (fun hs14_5 => ?_) (fun hs14_5 => ?_)
  · skip
    refine pj_J.go (oX1_breaksLaw G) 2 rfl trivial ?_
    refine pj_J.ite (fun hc214 => ?_) (fun hc214 => ?_)
    · skip
      refine pj_J.go (oX1_breaksLaw G) 1 rfl trivial ?_
      refine pj_zret dX1_breaksLaw_232 rfl (by first | exact Or.inl rfl | exact Or.inr rfl | exact pj_b01 _ | assumption) ?_
      show _ = _ ∧ _ = _
      have e : fc_brkN FL A n c.1 (sx_R c 1) (sx_R c 2) law x = ((0 : Int32), ((fc_runs A n c.1 (sx_R c 1) x).2.1), ((fc_runs A n c.1 (sx_R c 1) x).2.2), (sx_R c 2)) := by unfold fc_brkN; rw [if_neg (show ¬ (law = (0 : Int32)) from hs14_0), if_neg (show ¬ (law = (1 : Int32)) from hs14_1), if_neg (show ¬ (law = (3 : Int32)) from hs14_3), if_neg (show ¬ (law = (4 : Int32)) from hs14_4), if_pos (show law = (5 : Int32) from hs14_5), if_pos (show (fc_runs A n c.1 (sx_R c 1) x).1 = (0 : Int32) from hc214)]
      rw [e]
      exact ⟨rfl, rfl⟩
    · skip
      refine pj_J.go (oX1_breaksLaw G) 4 rfl trivial ?_
      refine pj_J.ite (fun hc224 => ?_) (fun hc224 => ?_)
      · skip
        refine pj_J.go (oX1_breaksLaw G) 1 rfl trivial ?_
        refine pj_zret dX1_breaksLaw_232 rfl (by first | exact Or.inl rfl | exact Or.inr rfl | exact pj_b01 _ | assumption) ?_
        show _ = _ ∧ _ = _
        have e : fc_brkN FL A n c.1 (sx_R c 1) (sx_R c 2) law x = ((0 : Int32), ((fc_runs A n c.1 (sx_R c 1) x).2.1), ((fc_runs A n c.1 (sx_R c 1) x).2.2), (sx_R c 2)) := by unfold fc_brkN; rw [if_neg (show ¬ (law = (0 : Int32)) from hs14_0), if_neg (show ¬ (law = (1 : Int32)) from hs14_1), if_neg (show ¬ (law = (3 : Int32)) from hs14_3), if_neg (show ¬ (law = (4 : Int32)) from hs14_4), if_pos (show law = (5 : Int32) from hs14_5), if_neg (show ¬ ((fc_runs A n c.1 (sx_R c 1) x).1 = (0 : Int32)) from hc214), if_pos (show (sx_i ((fc_runs A n c.1 (sx_R c 1) x).2.2) 13) ≤ (0 : Int32) from hc224)]
        rw [e]
        exact ⟨rfl, rfl⟩
      · skip
        refine pj_J.go (oX1_breaksLaw G) 2 rfl trivial ?_
        refine pj_zret dX1_breaksLaw_232 rfl (by first | exact Or.inl rfl | exact Or.inr rfl | exact pj_b01 _ | assumption) ?_
        show _ = _ ∧ _ = _
        have e : fc_brkN FL A n c.1 (sx_R c 1) (sx_R c 2) law x = ((1 : Int32), ((fc_runs A n c.1 (sx_R c 1) x).2.1), ((fc_runs A n c.1 (sx_R c 1) x).2.2), (sx_R c 2)) := by unfold fc_brkN; rw [if_neg (show ¬ (law = (0 : Int32)) from hs14_0), if_neg (show ¬ (law = (1 : Int32)) from hs14_1), if_neg (show ¬ (law = (3 : Int32)) from hs14_3), if_neg (show ¬ (law = (4 : Int32)) from hs14_4), if_pos (show law = (5 : Int32) from hs14_5), if_neg (show ¬ ((fc_runs A n c.1 (sx_R c 1) x).1 = (0 : Int32)) from hc214), if_neg (show ¬ ((sx_i ((fc_runs A n c.1 (sx_R c 1) x).2.2) 13) ≤ (0 : Int32)) from hc224)]
        rw [e]
        exact ⟨rfl, rfl⟩
  refine pj_J.swn ?_
  refine pj_J.go (oX1_breaksLaw G) 2 rfl trivial ?_
  refine pj_J.ite (fun hc235 => ?_) (fun hc235 => ?_)
  · skip
    refine pj_J.go (oX1_breaksLaw G) 1 rfl trivial ?_
    refine pj_zret dX1_breaksLaw_239 rfl (by first | exact Or.inl rfl | exact Or.inr rfl | exact pj_b01 _ | assumption) ?_
    show _ = _ ∧ _ = _
    have e : fc_brkN FL A n c.1 (sx_R c 1) (sx_R c 2) law x = ((0 : Int32), ((fc_runs A n c.1 (sx_R c 1) x).2.1), ((fc_runs A n c.1 (sx_R c 1) x).2.2), (sx_R c 2)) := by unfold fc_brkN; rw [if_neg (show ¬ (law = (0 : Int32)) from hs14_0), if_neg (show ¬ (law = (1 : Int32)) from hs14_1), if_neg (show ¬ (law = (3 : Int32)) from hs14_3), if_neg (show ¬ (law = (4 : Int32)) from hs14_4), if_neg (show ¬ (law = (5 : Int32)) from hs14_5), if_pos (show (fc_runs A n c.1 (sx_R c 1) x).1 = (0 : Int32) from hc235)]
    rw [e]
    exact ⟨rfl, rfl⟩
  · skip
    refine pj_J.go (oX1_breaksLaw G) 10 rfl ⟨by exact vp_in_lit (k := 0) (by decide), trivial⟩ ?_
    refine pj_J.cal0 kX1_breaksLaw_257 (c_X2_bill_47_2 (c := (sx_sR (sx_sM c (sx_sI ((fc_runs A n c.1 (sx_R c 1) x).2.1) 18 (upd (sx_I ((fc_runs A n c.1 (sx_R c 1) x).2.1) 18) (0 : Int32).toNatClampNeg x))) 1 ((fc_runs A n c.1 (sx_R c 1) x).2.2))) 1 (by decide)) ⟨_, _, _, rfl, rfl⟩ pj_le0 pj_le0 pj_le0 ?_
    refine pj_J.go (oX1_breaksLaw G) 2 rfl trivial ?_
    refine pj_J.cal0 kX1_breaksLaw_264 (c_X2_bare_2 (c := (sx_sR (sx_sR (sx_sM c (sx_sI ((fc_runs A n c.1 (sx_R c 1) x).2.1) 18 (upd (sx_I ((fc_runs A n c.1 (sx_R c 1) x).2.1) 18) (0 : Int32).toNatClampNeg x))) 1 ((fc_runs A n c.1 (sx_R c 1) x).2.2)) 2 (fr_bill (sx_R c 2) (sx_I (sx_sI ((fc_runs A n c.1 (sx_R c 1) x).2.1) 18 (upd (sx_I ((fc_runs A n c.1 (sx_R c 1) x).2.1) 18) (0 : Int32).toNatClampNeg x)) 18) 1)))) ⟨_, _, _, rfl, rfl⟩ pj_le0 pj_le0 pj_le0 ?_
    refine pj_J.go (oX1_breaksLaw G) 3 rfl trivial ?_
    refine pj_J.cal0 kX1_breaksLaw_272 ((cl (sx_sR (sx_sR (sx_sM c (sx_sI ((fc_runs A n c.1 (sx_R c 1) x).2.1) 18 (upd (sx_I ((fc_runs A n c.1 (sx_R c 1) x).2.1) 18) (0 : Int32).toNatClampNeg x))) 1 ((fc_runs A n c.1 (sx_R c 1) x).2.2)) 2 (fr_bare (fr_bill (sx_R c 2) (sx_I (sx_sI ((fc_runs A n c.1 (sx_R c 1) x).2.1) 18 (upd (sx_I ((fc_runs A n c.1 (sx_R c 1) x).2.1) 18) (0 : Int32).toNatClampNeg x)) 18) 1))) (hO.2.2.2.1 hs14_0 hs14_1 hs14_3 hs14_4 hs14_5 hc235))) ⟨_, _, _, rfl, hP.2.choose_spec.choose_spec.1⟩ pj_le0 pj_le0 pj_le0 ?_
    refine pj_J.go (oX1_breaksLaw G) 2 rfl trivial ?_
    refine pj_J.cal0 kX1_breaksLaw_277 (c_X1_alike2 (c := (sx_sR (sx_sR (sx_sM c ((FL (sx_sI ((fc_runs A n c.1 (sx_R c 1) x).2.1) 18 (upd (sx_I ((fc_runs A n c.1 (sx_R c 1) x).2.1) 18) (0 : Int32).toNatClampNeg x)) (fr_bare (fr_bill (sx_R c 2) (sx_I (sx_sI ((fc_runs A n c.1 (sx_R c 1) x).2.1) 18 (upd (sx_I ((fc_runs A n c.1 (sx_R c 1) x).2.1) 18) (0 : Int32).toNatClampNeg x)) 18) 1))).1)) 1 ((fc_runs A n c.1 (sx_R c 1) x).2.2)) 2 ((FL (sx_sI ((fc_runs A n c.1 (sx_R c 1) x).2.1) 18 (upd (sx_I ((fc_runs A n c.1 (sx_R c 1) x).2.1) 18) (0 : Int32).toNatClampNeg x)) (fr_bare (fr_bill (sx_R c 2) (sx_I (sx_sI ((fc_runs A n c.1 (sx_R c 1) x).2.1) 18 (upd (sx_I ((fc_runs A n c.1 (sx_R c 1) x).2.1) 18) (0 : Int32).toNatClampNeg x)) 18) 1))).2))) (1 : Int32)) ⟨_, _, _, rfl, rfl⟩ pj_le0 pj_le0 pj_le0 ?_
    refine pj_J.go (oX1_breaksLaw G) 1 rfl trivial ?_
    refine pj_J.ite (fun hc280 => ?_) (fun hc280 => ?_)
    · skip
      refine pj_J.go (oX1_breaksLaw G) 2 rfl trivial ?_
      refine pj_zret dX1_breaksLaw_288 rfl (by first | exact Or.inl rfl | exact Or.inr rfl | exact pj_b01 _ | assumption) ?_
      show _ = _ ∧ _ = _
      have e : fc_brkN FL A n c.1 (sx_R c 1) (sx_R c 2) law x = ((1 : Int32), ((FL (sx_sI ((fc_runs A n c.1 (sx_R c 1) x).2.1) 18 (upd (sx_I ((fc_runs A n c.1 (sx_R c 1) x).2.1) 18) (0 : Int32).toNatClampNeg x)) (fr_bare (fr_bill (sx_R c 2) (sx_I (sx_sI ((fc_runs A n c.1 (sx_R c 1) x).2.1) 18 (upd (sx_I ((fc_runs A n c.1 (sx_R c 1) x).2.1) 18) (0 : Int32).toNatClampNeg x)) 18) 1))).1), ((fc_runs A n c.1 (sx_R c 1) x).2.2), ((FL (sx_sI ((fc_runs A n c.1 (sx_R c 1) x).2.1) 18 (upd (sx_I ((fc_runs A n c.1 (sx_R c 1) x).2.1) 18) (0 : Int32).toNatClampNeg x)) (fr_bare (fr_bill (sx_R c 2) (sx_I (sx_sI ((fc_runs A n c.1 (sx_R c 1) x).2.1) 18 (upd (sx_I ((fc_runs A n c.1 (sx_R c 1) x).2.1) 18) (0 : Int32).toNatClampNeg x)) 18) 1))).2)) := by unfold fc_brkN; rw [if_neg (show ¬ (law = (0 : Int32)) from hs14_0), if_neg (show ¬ (law = (1 : Int32)) from hs14_1), if_neg (show ¬ (law = (3 : Int32)) from hs14_3), if_neg (show ¬ (law = (4 : Int32)) from hs14_4), if_neg (show ¬ (law = (5 : Int32)) from hs14_5), if_neg (show ¬ ((fc_runs A n c.1 (sx_R c 1) x).1 = (0 : Int32)) from hc235), if_pos (show (fc_alike2 ((fc_runs A n c.1 (sx_R c 1) x).2.2) ((FL (sx_sI ((fc_runs A n c.1 (sx_R c 1) x).2.1) 18 (upd (sx_I ((fc_runs A n c.1 (sx_R c 1) x).2.1) 18) (0 : Int32).toNatClampNeg x)) (fr_bare (fr_bill (sx_R c 2) (sx_I (sx_sI ((fc_runs A n c.1 (sx_R c 1) x).2.1) 18 (upd (sx_I ((fc_runs A n c.1 (sx_R c 1) x).2.1) 18) (0 : Int32).toNatClampNeg x)) 18) 1))).2) (1 : Int32)) = (0 : Int32) from hc280)]
      rw [e]
      exact ⟨rfl, rfl⟩
    · skip
      refine pj_J.go (oX1_breaksLaw G) 1 rfl trivial ?_
      refine pj_zret dX1_breaksLaw_288 rfl (by first | exact Or.inl rfl | exact Or.inr rfl | exact pj_b01 _ | assumption) ?_
      show _ = _ ∧ _ = _
      have e : fc_brkN FL A n c.1 (sx_R c 1) (sx_R c 2) law x = ((0 : Int32), ((FL (sx_sI ((fc_runs A n c.1 (sx_R c 1) x).2.1) 18 (upd (sx_I ((fc_runs A n c.1 (sx_R c 1) x).2.1) 18) (0 : Int32).toNatClampNeg x)) (fr_bare (fr_bill (sx_R c 2) (sx_I (sx_sI ((fc_runs A n c.1 (sx_R c 1) x).2.1) 18 (upd (sx_I ((fc_runs A n c.1 (sx_R c 1) x).2.1) 18) (0 : Int32).toNatClampNeg x)) 18) 1))).1), ((fc_runs A n c.1 (sx_R c 1) x).2.2), ((FL (sx_sI ((fc_runs A n c.1 (sx_R c 1) x).2.1) 18 (upd (sx_I ((fc_runs A n c.1 (sx_R c 1) x).2.1) 18) (0 : Int32).toNatClampNeg x)) (fr_bare (fr_bill (sx_R c 2) (sx_I (sx_sI ((fc_runs A n c.1 (sx_R c 1) x).2.1) 18 (upd (sx_I ((fc_runs A n c.1 (sx_R c 1) x).2.1) 18) (0 : Int32).toNatClampNeg x)) 18) 1))).2)) := by unfold fc_brkN; rw [if_neg (show ¬ (law = (0 : Int32)) from hs14_0), if_neg (show ¬ (law = (1 : Int32)) from hs14_1), if_neg (show ¬ (law = (3 : Int32)) from hs14_3), if_neg (show ¬ (law = (4 : Int32)) from hs14_4), if_neg (show ¬ (law = (5 : Int32)) from hs14_5), if_neg (show ¬ ((fc_runs A n c.1 (sx_R c 1) x).1 = (0 : Int32)) from hc235), if_neg (show ¬ ((fc_alike2 ((fc_runs A n c.1 (sx_R c 1) x).2.2) ((FL (sx_sI ((fc_runs A n c.1 (sx_R c 1) x).2.1) 18 (upd (sx_I ((fc_runs A n c.1 (sx_R c 1) x).2.1) 18) (0 : Int32).toNatClampNeg x)) (fr_bare (fr_bill (sx_R c 2) (sx_I (sx_sI ((fc_runs A n c.1 (sx_R c 1) x).2.1) 18 (upd (sx_I ((fc_runs A n c.1 (sx_R c 1) x).2.1) 18) (0 : Int32).toNatClampNeg x)) 18) 1))).2) (1 : Int32)) = (0 : Int32)) from hc280)]
      rw [e]
      exact ⟨rfl, rfl⟩
theorem ly_bsR {G : pj_G} {d : Nat} {c : sx_C} {m : sx_M} {o : Nat → Int64} {D : pj_H} {Q : pj_O → pj_H → Prop} {pi po : Nat} (law x r : Int32) (s : Int64) (k : Nat) (hk : k < 8) (kk : pj_J G mX1_breaksLaw (d + 6) 58 [some (.ref 2), some (.ref (pi + 98)), some (.int law), some (.ref (po + 98)), some (.int x), some (.int r), some (.long (fc_bsB (sx_R c 1) k s)), none, some (.int (nI k + 1)), none] [] (sx_mk c m o D) 0 0 Q) : pj_J G mX1_breaksLaw (d + 6) 58 [some (.ref 2), some (.ref (pi + 98)), some (.int law), some (.ref (po + 98)), some (.int x), some (.int r), some (.long s), none, some (.int (nI k)), none] [] (sx_mk c m o D) 0 0 Q := by
  refine pj_J.go (oX1_breaksLaw G) 3 rfl trivial ?_
  refine pj_J.neg (nI_lt_lit hk (by decide)) ?_
  refine pj_J.go (oX1_breaksLaw G) 10 rfl ⟨by exact vp_in_lit hk, trivial⟩ ?_
  exact kk
theorem lz_bsR {G : pj_G} {d : Nat} {c : sx_C} {m : sx_M} {o : Nat → Int64} {D : pj_H} {Q : pj_O → pj_H → Prop} {pi po : Nat} (law x r : Int32) (s : Int64) (q : Q (.inl (some (.int (if r = 0 then 0 else if s = 0 then 0 else 1)))) (sx_mk c m o D)) : pj_J G mX1_breaksLaw (d + 6) 58 [some (.ref 2), some (.ref (pi + 98)), some (.int law), some (.ref (po + 98)), some (.int x), some (.int r), some (.long s), none, some (.int (nI 8)), none] [] (sx_mk c m o D) 0 0 Q := by
  refine pj_J.go (oX1_breaksLaw G) 3 rfl trivial ?_
  refine pj_J.pos (nI_ge_lit (Nat.le_refl _) (by decide)) ?_
  refine pj_J.go (oX1_breaksLaw G) 2 rfl trivial ?_
  refine pj_J.ite (fun hc88 => ?_) (fun hc88 => ?_)
  · skip
    refine pj_J.go (oX1_breaksLaw G) 1 rfl trivial ?_
    rw [if_pos (show r = (0 : Int32) from hc88)] at q
    exact pj_zret dX1_breaksLaw_103 rfl (by first | exact Or.inl rfl | exact Or.inr rfl | exact pj_b01 _ | assumption) q
  · skip
    refine pj_J.go (oX1_breaksLaw G) 4 rfl trivial ?_
    refine pj_J.ite (fun hc95 => ?_) (fun hc95 => ?_)
    · simp only [pj_lc_eq] at hc95
      refine pj_J.go (oX1_breaksLaw G) 1 rfl trivial ?_
      rw [if_neg (show ¬ (r = (0 : Int32)) from hc88), if_pos (show s = (0 : Int64) from hc95)] at q
      exact pj_zret dX1_breaksLaw_103 rfl (by first | exact Or.inl rfl | exact Or.inr rfl | exact pj_b01 _ | assumption) q
    · simp only [pj_lc_eq] at hc95
      refine pj_J.go (oX1_breaksLaw G) 2 rfl trivial ?_
      rw [if_neg (show ¬ (r = (0 : Int32)) from hc88), if_neg (show ¬ (s = (0 : Int64)) from hc95)] at q
      exact pj_zret dX1_breaksLaw_103 rfl (by first | exact Or.inl rfl | exact Or.inr rfl | exact pj_b01 _ | assumption) q
def fc_brkR (FL : sx_M → sx_M → sx_M × sx_M) (A : fp_A) (n : Nat) (B : fp_A) (nb : Nat) (w u y : sx_M) (law x : Int32) : Int32 × sx_M × sx_M × sx_M := if (fc_runs A n w u x).1 = (fc_runs B nb ((fc_runs A n w u x).2.1) y x).1 then (if (fc_runs A n w u x).1 = (0 : Int32) then ((0 : Int32), ((fc_runs B nb ((fc_runs A n w u x).2.1) y x).2.1), ((fc_runs A n w u x).2.2), ((fc_runs B nb ((fc_runs A n w u x).2.1) y x).2.2)) else (if (fc_alike2 ((fc_runs A n w u x).2.2) ((fc_runs B nb ((fc_runs A n w u x).2.1) y x).2.2) (1 : Int32)) = (0 : Int32) then ((1 : Int32), ((fc_runs B nb ((fc_runs A n w u x).2.1) y x).2.1), ((fc_runs A n w u x).2.2), ((fc_runs B nb ((fc_runs A n w u x).2.1) y x).2.2)) else ((0 : Int32), ((fc_runs B nb ((fc_runs A n w u x).2.1) y x).2.1), ((fc_runs A n w u x).2.2), ((fc_runs B nb ((fc_runs A n w u x).2.1) y x).2.2)))) else ((1 : Int32), ((fc_runs B nb ((fc_runs A n w u x).2.1) y x).2.1), ((fc_runs A n w u x).2.2), ((fc_runs B nb ((fc_runs A n w u x).2.1) y x).2.2))
def fc_brkROk (FO : sx_M → sx_M → Prop) (FL : sx_M → sx_M → sx_M × sx_M) (A : fp_A) (n : Nat) (B : fp_A) (nb : Nat) (w u y : sx_M) (law x : Int32) : Prop := (fc_runsOk A n w u x) ∧ (fc_runsOk B nb ((fc_runs A n w u x).2.1) y x) ∧ True
theorem c_X1_breaksLawR {G : pj_G} {d : Nat} {c : sx_C} {m : sx_M} {o : Nat → Int64} {D : pj_H} (FL : sx_M → sx_M → sx_M × sx_M) {pi n : Nat} {A : fp_A} {cn cd : Int64} {po nb : Nat} {B : fp_A} {cn2 cd2 : Int64} (hP : fp_prog D pi n A cn cd) (hB : fp_prog D po nb B cn2 cd2) (law x : Int32) (hl2 : law = 2) (FO : sx_M → sx_M → Prop) (cl : ∀ c : sx_C, FO c.1 (sx_R c 2) → pj_Rt G mX5_loosely (d + 5) [.ref (pi + 98), .ref 32] (sx_mk c m o D) 0 0 none (sx_mk (sx_sR (sx_sM c (FL c.1 (sx_R c 2)).1) 2 (FL c.1 (sx_R c 2)).2) m o D)) (hO : fc_brkROk FO FL A n B nb c.1 (sx_R c 1) (sx_R c 2) law x) : pj_Rt G mX1_breaksLaw (d + 6) [.ref 2, .ref (pi + 98), .int law, .ref (po + 98), .int x] (sx_mk c m o D) 0 0 (some (.int (fc_brkR FL A n B nb c.1 (sx_R c 1) (sx_R c 2) law x).1)) (sx_mk (sx_sR (sx_sR (sx_sM c (fc_brkR FL A n B nb c.1 (sx_R c 1) (sx_R c 2) law x).2.1) 1 (fc_brkR FL A n B nb c.1 (sx_R c 1) (sx_R c 2) law x).2.2.1) 2 (fc_brkR FL A n B nb c.1 (sx_R c 1) (sx_R c 2) law x).2.2.2) m o D) := by
  refine pj_Cn.start ?_
  refine pj_J.go (oX1_breaksLaw G) 5 rfl trivial ?_
  refine pj_J.cal0 kX1_breaksLaw_8 (c_X1_runs_1 (c := c) hP x (hO.1)) ⟨_, _, _, rfl, rfl⟩ pj_le0 pj_le0 pj_le0 ?_
  refine pj_J.go (oX1_breaksLaw G) 3 rfl trivial ?_
  refine pj_J.swc (fun h => absurd h (by rw [hl2]; decide)) (fun _ => ?_)
  refine pj_J.swc (fun h => absurd h (by rw [hl2]; decide)) (fun _ => ?_)
  refine pj_J.swc (fun _ => ?_) (fun h => absurd (hl2) h)
  refine pj_J.go (oX1_breaksLaw G) 5 rfl trivial ?_
  refine pj_J.cal0 kX1_breaksLaw_152 (c_X1_runs_2 (c := (sx_sR (sx_sM c ((fc_runs A n c.1 (sx_R c 1) x).2.1)) 1 ((fc_runs A n c.1 (sx_R c 1) x).2.2))) hB x (hO.2.1)) ⟨_, _, _, rfl, rfl⟩ pj_le0 pj_le0 pj_le0 ?_
  refine pj_J.go (oX1_breaksLaw G) 4 rfl trivial ?_
  refine pj_J.ite (fun hc161 => ?_) (fun hc161 => ?_)
  · skip
    refine pj_J.go (oX1_breaksLaw G) 2 rfl trivial ?_
    refine pj_J.ite (fun hc166 => ?_) (fun hc166 => ?_)
    · skip
      refine pj_J.go (oX1_breaksLaw G) 1 rfl trivial ?_
      refine pj_zret dX1_breaksLaw_182 rfl (by first | exact Or.inl rfl | exact Or.inr rfl | exact pj_b01 _ | assumption) ?_
      show _ = _ ∧ _ = _
      have e : fc_brkR FL A n B nb c.1 (sx_R c 1) (sx_R c 2) law x = ((0 : Int32), ((fc_runs B nb ((fc_runs A n c.1 (sx_R c 1) x).2.1) (sx_R c 2) x).2.1), ((fc_runs A n c.1 (sx_R c 1) x).2.2), ((fc_runs B nb ((fc_runs A n c.1 (sx_R c 1) x).2.1) (sx_R c 2) x).2.2)) := by unfold fc_brkR; rw [if_pos (show (fc_runs A n c.1 (sx_R c 1) x).1 = (fc_runs B nb ((fc_runs A n c.1 (sx_R c 1) x).2.1) (sx_R c 2) x).1 from hc161), if_pos (show (fc_runs A n c.1 (sx_R c 1) x).1 = (0 : Int32) from hc166)]
      rw [e]
      exact ⟨rfl, rfl⟩
    · skip
      refine pj_J.go (oX1_breaksLaw G) 2 rfl trivial ?_
      refine pj_J.cal0 kX1_breaksLaw_171 (c_X1_alike2 (c := (sx_sR (sx_sR (sx_sM c ((fc_runs B nb ((fc_runs A n c.1 (sx_R c 1) x).2.1) (sx_R c 2) x).2.1)) 1 ((fc_runs A n c.1 (sx_R c 1) x).2.2)) 2 ((fc_runs B nb ((fc_runs A n c.1 (sx_R c 1) x).2.1) (sx_R c 2) x).2.2))) (1 : Int32)) ⟨_, _, _, rfl, rfl⟩ pj_le0 pj_le0 pj_le0 ?_
      refine pj_J.go (oX1_breaksLaw G) 1 rfl trivial ?_
      refine pj_J.ite (fun hc174 => ?_) (fun hc174 => ?_)
      · skip
        refine pj_J.go (oX1_breaksLaw G) 2 rfl trivial ?_
        refine pj_zret dX1_breaksLaw_182 rfl (by first | exact Or.inl rfl | exact Or.inr rfl | exact pj_b01 _ | assumption) ?_
        show _ = _ ∧ _ = _
        have e : fc_brkR FL A n B nb c.1 (sx_R c 1) (sx_R c 2) law x = ((1 : Int32), ((fc_runs B nb ((fc_runs A n c.1 (sx_R c 1) x).2.1) (sx_R c 2) x).2.1), ((fc_runs A n c.1 (sx_R c 1) x).2.2), ((fc_runs B nb ((fc_runs A n c.1 (sx_R c 1) x).2.1) (sx_R c 2) x).2.2)) := by unfold fc_brkR; rw [if_pos (show (fc_runs A n c.1 (sx_R c 1) x).1 = (fc_runs B nb ((fc_runs A n c.1 (sx_R c 1) x).2.1) (sx_R c 2) x).1 from hc161), if_neg (show ¬ ((fc_runs A n c.1 (sx_R c 1) x).1 = (0 : Int32)) from hc166), if_pos (show (fc_alike2 ((fc_runs A n c.1 (sx_R c 1) x).2.2) ((fc_runs B nb ((fc_runs A n c.1 (sx_R c 1) x).2.1) (sx_R c 2) x).2.2) (1 : Int32)) = (0 : Int32) from hc174)]
        rw [e]
        exact ⟨rfl, rfl⟩
      · skip
        refine pj_J.go (oX1_breaksLaw G) 1 rfl trivial ?_
        refine pj_zret dX1_breaksLaw_182 rfl (by first | exact Or.inl rfl | exact Or.inr rfl | exact pj_b01 _ | assumption) ?_
        show _ = _ ∧ _ = _
        have e : fc_brkR FL A n B nb c.1 (sx_R c 1) (sx_R c 2) law x = ((0 : Int32), ((fc_runs B nb ((fc_runs A n c.1 (sx_R c 1) x).2.1) (sx_R c 2) x).2.1), ((fc_runs A n c.1 (sx_R c 1) x).2.2), ((fc_runs B nb ((fc_runs A n c.1 (sx_R c 1) x).2.1) (sx_R c 2) x).2.2)) := by unfold fc_brkR; rw [if_pos (show (fc_runs A n c.1 (sx_R c 1) x).1 = (fc_runs B nb ((fc_runs A n c.1 (sx_R c 1) x).2.1) (sx_R c 2) x).1 from hc161), if_neg (show ¬ ((fc_runs A n c.1 (sx_R c 1) x).1 = (0 : Int32)) from hc166), if_neg (show ¬ ((fc_alike2 ((fc_runs A n c.1 (sx_R c 1) x).2.2) ((fc_runs B nb ((fc_runs A n c.1 (sx_R c 1) x).2.1) (sx_R c 2) x).2.2) (1 : Int32)) = (0 : Int32)) from hc174)]
        rw [e]
        exact ⟨rfl, rfl⟩
  · skip
    refine pj_J.go (oX1_breaksLaw G) 2 rfl trivial ?_
    refine pj_zret dX1_breaksLaw_182 rfl (by first | exact Or.inl rfl | exact Or.inr rfl | exact pj_b01 _ | assumption) ?_
    show _ = _ ∧ _ = _
    have e : fc_brkR FL A n B nb c.1 (sx_R c 1) (sx_R c 2) law x = ((1 : Int32), ((fc_runs B nb ((fc_runs A n c.1 (sx_R c 1) x).2.1) (sx_R c 2) x).2.1), ((fc_runs A n c.1 (sx_R c 1) x).2.2), ((fc_runs B nb ((fc_runs A n c.1 (sx_R c 1) x).2.1) (sx_R c 2) x).2.2)) := by unfold fc_brkR; rw [if_neg (show ¬ ((fc_runs A n c.1 (sx_R c 1) x).1 = (fc_runs B nb ((fc_runs A n c.1 (sx_R c 1) x).2.1) (sx_R c 2) x).1) from hc161)]
    rw [e]
    exact ⟨rfl, rfl⟩
