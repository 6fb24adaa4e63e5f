/-! PennyJudgeModel: differs (by tools/gen_m18.py) -/
set_option maxRecDepth 100000
def fm_dfB (v : Int64) (m : sx_M) (k : Nat) (f : Int32) : Int32 := if f = 0 then (if sx_L m 42 (nI k).toNatClampNeg = v * sx_L m 23 (8 + nI k).toNatClampNeg then 0 else 1) else 1
def fm_differs (m : sx_M) (v : Int64) : Int32 := it_up (fm_dfB v m) 8 0 0
theorem fm_dfB01 (v : Int64) (m : sx_M) (k : Nat) (f : Int32) : fm_dfB v m k f = 0 ∨ fm_dfB v m k f = 1 := by
  unfold fm_dfB
  split
  · split
    · exact Or.inl rfl
    · exact Or.inr rfl
  · exact Or.inr rfl
theorem ly_X4_differs {G : pj_G} {d : Nat} {c : sx_C} {o : Nat → Int64} {D : pj_H} {Q : pj_O → pj_H → Prop} (v : Int64) (j : Nat) (f : Int32) (m : sx_M) (hj : j < 8) (kk : pj_J G mX4_differs d 5 [some (.ref 59), some (.long v), none, some (.int (fm_dfB v m j f)), some (.int (nI j + 1))] [] (sx_mk c m o D) 0 0 Q) : pj_J G mX4_differs d 5 [some (.ref 59), some (.long v), none, some (.int f), some (.int (nI j))] [] (sx_mk c m o D) 0 0 Q := by
  unfold fm_dfB at kk
  refine pj_J.go (oX4_differs G) 3 rfl trivial ?_
  refine pj_J.neg (nI_lt_lit hj (by decide)) ?_
  refine pj_J.go (oX4_differs G) 2 rfl trivial ?_
  refine pj_J.ite (fun hc13 => ?_) (fun hc13 => ?_)
  · skip
    refine pj_J.go (oX4_differs G) 14 rfl ⟨by exact vp_in_lit hj, by exact vp_in_8k hj, trivial⟩ ?_
    refine pj_J.ite (fun hc36 => ?_) (fun hc36 => ?_)
    · simp only [pj_lc_eq] at hc36
      refine pj_J.go (oX4_differs G) 4 rfl trivial ?_
      first | (rw [if_neg hc13] at kk; exact kk) | (rw [if_pos hc13, if_pos hc36] at kk; exact kk) | (rw [if_pos hc13, if_neg hc36] at kk; exact kk)
    · simp only [pj_lc_eq] at hc36
      refine pj_J.go (oX4_differs G) 5 rfl trivial ?_
      first | (rw [if_neg hc13] at kk; exact kk) | (rw [if_pos hc13, if_pos hc36] at kk; exact kk) | (rw [if_pos hc13, if_neg hc36] at kk; exact kk)
  · skip
    refine pj_J.go (oX4_differs G) 5 rfl trivial ?_
    first | (rw [if_neg hc13] at kk; exact kk) | (rw [if_pos hc13, if_pos hc36] at kk; exact kk) | (rw [if_pos hc13, if_neg hc36] at kk; exact kk)
theorem lz_X4_differs {G : pj_G} {d : Nat} {c : sx_C} {o : Nat → Int64} {D : pj_H} {Q : pj_O → pj_H → Prop} (v : Int64) (f : Int32) (m : sx_M) (hf : f = 0 ∨ f = 1) (q : Q (.inl (some (.int f))) (sx_mk c m o D)) : pj_J G mX4_differs d 5 [some (.ref 59), some (.long v), none, some (.int f), some (.int (nI 8))] [] (sx_mk c m o D) 0 0 Q := by
  refine pj_J.go (oX4_differs G) 3 rfl trivial ?_
  refine pj_J.pos (nI_ge_lit (Nat.le_refl _) (by decide)) ?_
  refine pj_J.go (oX4_differs G) 1 rfl trivial ?_
  exact pj_zret dX4_differs_52 rfl hf q
theorem c_X4_differs {G : pj_G} {d : Nat} {c : sx_C} {m : sx_M} {o : Nat → Int64} {D : pj_H} (v : Int64) : pj_Rt G mX4_differs d [.ref 59, .long v] (sx_mk c m o D) 0 0 (some (.int (fm_differs m v))) (sx_mk c m o D) := by
  refine pj_Cn.start ?_
  refine pj_J.go (oX4_differs G) 4 rfl trivial ?_
  exact pj_for (fun j f => pj_J G mX4_differs d 5 [some (.ref 59), some (.long v), none, some (.int f), some (.int (nI j))] [] (sx_mk c m o D) 0 0 _) (fm_dfB v m) (fun _ f => f = 0 ∨ f = 1) 8 (fun j f hj hi => ⟨fm_dfB01 v m j f, fun kk => ly_X4_differs v j f m hj (by rw [nI_add1]; exact kk)⟩) 8 0 0 (by simp) (Or.inl rfl) (fun hi => lz_X4_differs v _ m hi ⟨rfl, rfl⟩)
