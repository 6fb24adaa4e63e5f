/-! image: the loop over the accounts. Own work. -/
set_option maxRecDepth 100000
theorem fp_at1 (E : pj_H) (x y : pj_E) (r : List pj_E) : (E ++ x :: y :: r)[E.length + 1]? = some y := by simp
theorem fp_set1 (E : pj_H) (x y z : pj_E) (r : List pj_E) : (E ++ x :: y :: r).set (E.length + 1) z = E ++ x :: z :: r := by simp
def fc_imA (c : sx_C) (k : Nat) (a : Nat → Int64) : Nat → Int64 := vp_updL a (nI k).toNatClampNeg (sx_L c.1 8 (nI k).toNatClampNeg)
theorem ly_imA {G : pj_G} {dd : Nat} {c : sx_C} {m : sx_M} {o : Nat → Int64} {E : pj_H} {Q : pj_O → pj_H → Prop} {kc ks : Nat} (k : Nat) (t l p : Int32) (a n d : Nat → Int64) (hk : k < 8) (kk : pj_J G mX1_image dd 20 [some (.ref 2), some (.int t), some (.ref (E.length + 98)), some (.int (nI k + 1))] [] (sx_mk c m o (fp_im E l p (fc_imA c k a) n d)) kc ks Q) : pj_J G mX1_image dd 20 [some (.ref 2), some (.int t), some (.ref (E.length + 98)), some (.int (nI k))] [] (sx_mk c m o (fp_im E l p a n d)) kc ks Q := by
  refine pj_J.go (oX1_image G) 3 rfl trivial ?_
  refine pj_J.neg (by rw [Int32.le_iff_toInt_le, nI_toInt (by omega)]; show ¬ (8 : Int) ≤ k; omega) ?_
  refine pj_J.go (oX1_image G) 1 rfl trivial ?_
  refine pj_J.go1 (pc := 27) (oX1_image G) rfl (po_getD (lo := 18) (hi := 18) (k := 0) (n := 30) (by exact fp_at0 E _ _) (by decide) (by rfl)) trivial ?_
  refine pj_J.go (oX1_image G) 5 rfl ⟨by exact vp_in_lit hk, trivial⟩ ?_
  refine pj_J.go1 (pc := 37) (oX1_image G) rfl (po_lastD (n := 38) (N := 8) (f := a) (by exact fp_at1 E _ _ _)) (by exact vp_in_lit hk) ?_
  refine pj_J.heq (h' := sx_mk c m o (fp_im E l p (fc_imA c k a) n d)) (congrArg (sx_mk c m o) (fp_set1 E _ _ _ _)) ?_
  refine pj_J.go (oX1_image G) 2 rfl trivial ?_
  exact kk
theorem lp_imA {G : pj_G} {dd : Nat} {c : sx_C} {m : sx_M} {o : Nat → Int64} {E : pj_H} {Q : pj_O → pj_H → Prop} {kc ks : Nat} (t l p : Int32) (a n d : Nat → Int64) (kk : pj_J G mX1_image dd 44 [some (.ref 2), some (.int t), some (.ref (E.length + 98)), some (.int (nI 8))] [] (sx_mk c m o (fp_im E l p (it_up (fc_imA c) 8 0 a) n d)) kc ks Q) : pj_J G mX1_image dd 20 [some (.ref 2), some (.int t), some (.ref (E.length + 98)), some (.int (nI 0))] [] (sx_mk c m o (fp_im E l p a n d)) kc ks Q := by
  refine pj_for (σ := Nat → Int64) (fun (k : Nat) (x : Nat → Int64) => pj_J G mX1_image dd 20 [some (.ref 2), some (.int t), some (.ref (E.length + 98)), some (.int (nI k))] [] (sx_mk c m o (fp_im E l p x n d)) kc ks Q) (fc_imA c) (fun _ _ => True) 8 (fun k x hk hi => ⟨hi, fun kk => ?_⟩) 8 0 a rfl trivial (fun _ => ?_)
  · refine ly_imA k t l p x n d hk ?_
    rw [nI_add1]
    exact kk
  · refine pj_J.go (oX1_image G) 3 rfl trivial ?_
    refine pj_J.pos (by decide) ?_
    exact kk
