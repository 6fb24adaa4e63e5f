/-! load: refused arguments; the last loop. Own work. -/
set_option maxRecDepth 100000
theorem c_X1_loadX {G : pj_G} {d : Nat} {c : sx_C} {m : sx_M} {o : Nat → Int64} {D : pj_H} (k f n : Int32) (hb : ¬ (¬ fc_isTape c.1 k = 0 ∧ ¬ n < 0 ∧ n ≤ 12)) : pj_Rt G mX1_load (d + 1) [.ref 2, .int k, .int f, .int n] (sx_mk c m o D) 0 0 (some (.int (-1))) (sx_mk c m o D) := by
  have e : ∀ {L : pj_L}, pj_J G mX1_load (d + 1) 18 L [] (sx_mk c m o D) 0 0 (fun r x => r = .inl (some (.int (-1))) ∧ x = sx_mk c m o D) := fun {L} => by
    refine pj_J.go (oX1_load G) 1 rfl trivial ?_
    exact pj_iret dX1_load_19 rfl ⟨rfl, rfl⟩
  refine pj_Cn.start ?_
  refine pj_J.go (oX1_load G) 2 rfl trivial ?_
  refine pj_J.cal0 kX1_load_2 (c_X1_isTape (c := c) k) ⟨_, _, _, rfl, rfl⟩ pj_le0 pj_le0 pj_le0 ?_
  refine pj_J.go (oX1_load G) 1 rfl trivial ?_
  refine pj_J.ite (fun _ => e) (fun h0 => ?_)
  refine pj_J.go (oX1_load G) 2 rfl trivial ?_
  refine pj_J.ite (fun _ => e) (fun h1 => ?_)
  refine pj_J.go (oX1_load G) 3 rfl trivial ?_
  exact pj_J.ite (fun h3 => absurd ⟨h0, h1, h3⟩ hb) (fun _ => e)
def fc_ldB (k : Nat) (u : sx_M) : sx_M := sx_sI u 2 (upd (sx_I u 2) (nI k).toNatClampNeg (sx_I u 17 (nI k).toNatClampNeg))
theorem lp_ldB {G : pj_G} {dd : Nat} {c : sx_C} {m : sx_M} {o : Nat → Int64} {D : pj_H} {Q : pj_O → pj_H → Prop} {kc ks : Nat} (N : Nat) (k f : Int32) (v4 : Value) (v5 : Int32) (hN : N ≤ 12) (q : Q (.inl (some (.int (nI N)))) (sx_mk (sx_sM c (sx_si (it_up fc_ldB N 0 c.1) 3 (nI N))) m o D)) : pj_J G mX1_load dd 163 [some (.ref 2), some (.int k), some (.int f), some (.int (nI N)), some v4, some (.int v5), some (.int (nI 0)), none, none, none] [] (sx_mk c m o D) kc ks Q := by
  refine pj_for (σ := sx_M) (fun (j : Nat) (u : sx_M) => pj_J G mX1_load dd 163 [some (.ref 2), some (.int k), some (.int f), some (.int (nI N)), some v4, some (.int v5), some (.int (nI j)), none, none, none] [] (sx_mk (sx_sM c u) m o D) kc ks Q) fc_ldB (fun _ _ => True) N (fun j u hj hi => ⟨hi, fun kk => ?_⟩) N 0 c.1 (by omega) trivial (fun _ => ?_)
  · refine pj_J.go (oX1_load G) 3 rfl trivial ?_
    refine pj_J.neg (by rw [Int32.le_iff_toInt_le, nI_toInt (by omega), nI_toInt (by omega)]; omega) ?_
    refine pj_J.go (oX1_load G) 6 rfl trivial ?_
    refine pj_J.go (oX1_load G) 1 rfl ⟨by exact vp_in_lit (by omega), trivial⟩ ?_
    refine pj_J.go (oX1_load G) 1 rfl ⟨by exact vp_in_lit (by omega), trivial⟩ ?_
    refine pj_J.go (oX1_load G) 2 rfl trivial ?_
    rw [nI_add1]
    exact kk
  · generalize it_up fc_ldB N 0 c.1 = u at q ⊢
    refine pj_J.go (oX1_load G) 3 rfl trivial ?_
    refine pj_J.pos (Int32.le_refl _) ?_
    refine pj_J.go (oX1_load G) 4 rfl trivial ?_
    exact pj_iret dX1_load_195 rfl q
