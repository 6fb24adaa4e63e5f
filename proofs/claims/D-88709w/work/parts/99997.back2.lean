/-! back: the loop over the accounts. Own work. -/
set_option maxRecDepth 100000
def fc_bkA (a : Nat → Int64) (k : Nat) (u : sx_M) : sx_M := sx_sL u 8 (vp_updL (sx_L u 8) (nI k).toNatClampNeg (a (nI k).toNatClampNeg))
theorem ly_bkA {G : pj_G} {dd : Nat} {c : sx_C} {m : sx_M} {o : Nat → Int64} {D : pj_H} {Q : pj_O → pj_H → Prop} {kc ks : Nat} (k : Nat) (t : Int32) {i0 ia : Nat} {y z w p : Value} {a : Nat → Int64} (hi : D[i0]? = some (.inr (18, [.ref (ia + 98), y, z, w, p]))) (ha : D[ia]? = some (.inl (1, (8, .inr (.inl a))))) (hk : k < 8) (kk : pj_J G mX1_back dd 58 [some (.ref 2), some (.int t), some (.ref (i0 + 98)), some (.int (nI k + 1))] [] (sx_mk (sx_sM c (fc_bkA a k c.1)) m o D) kc ks Q) : pj_J G mX1_back dd 58 [some (.ref 2), some (.int t), some (.ref (i0 + 98)), some (.int (nI k))] [] (sx_mk c m o D) kc ks Q := by
  refine pj_J.go (oX1_back G) 3 rfl trivial ?_
  refine pj_J.neg (by rw [Int32.le_iff_toInt_le, nI_toInt (by omega)]; show ¬ (8 : Int) ≤ k; omega) ?_
  refine pj_J.go (oX1_back G) 4 rfl trivial ?_
  refine pj_J.go1 (pc := 70) (oX1_back G) rfl (po_getD (lo := 18) (hi := 18) (k := 0) (n := 73) (by exact hi) (by decide) (by rfl)) trivial ?_
  refine pj_J.go (oX1_back G) 1 rfl trivial ?_
  refine pj_J.go1 (pc := 74) (oX1_back G) rfl (po_laldD (n := 75) (by exact ha)) (by exact vp_in_lit hk) ?_
  refine pj_J.go (oX1_back G) 3 rfl ⟨by exact vp_in_lit hk, trivial⟩ ?_
  exact kk
theorem lp_bkA {G : pj_G} {dd : Nat} {c : sx_C} {m : sx_M} {o : Nat → Int64} {D : pj_H} {Q : pj_O → pj_H → Prop} {kc ks : Nat} (t : Int32) {i0 ia : Nat} {y z w p : Value} {a : Nat → Int64} (hi : D[i0]? = some (.inr (18, [.ref (ia + 98), y, z, w, p]))) (ha : D[ia]? = some (.inl (1, (8, .inr (.inl a))))) (kk : pj_J G mX1_back dd 82 [some (.ref 2), some (.int t), some (.ref (i0 + 98)), some (.int (nI 8))] [] (sx_mk (sx_sM c (it_up (fc_bkA a) 8 0 c.1)) m o D) kc ks Q) : pj_J G mX1_back dd 58 [some (.ref 2), some (.int t), some (.ref (i0 + 98)), some (.int (nI 0))] [] (sx_mk c m o D) kc ks Q := by
  refine pj_for (σ := sx_M) (fun (k : Nat) (x : sx_M) => pj_J G mX1_back dd 58 [some (.ref 2), some (.int t), some (.ref (i0 + 98)), some (.int (nI k))] [] (sx_mk (sx_sM c x) m o D) kc ks Q) (fc_bkA a) (fun _ _ => True) 8 (fun k x hk hi' => ⟨hi', fun kk => ?_⟩) 8 0 c.1 rfl trivial (fun _ => ?_)
  · refine ly_bkA (c := sx_sM c x) k t hi ha hk ?_
    rw [nI_add1]
    exact kk
  · refine pj_J.go (oX1_back G) 3 rfl trivial ?_
    refine pj_J.pos (by decide) ?_
    exact kk
