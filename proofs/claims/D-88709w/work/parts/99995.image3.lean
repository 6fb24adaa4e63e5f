/-! image: the loop over the programs, and the whole. Own work. -/
set_option maxRecDepth 100000
theorem fp_at2 (E : pj_H) (x y z : pj_E) (r : List pj_E) : (E ++ x :: y :: z :: r)[E.length + 2]? = some z := by simp
theorem fp_set2 (E : pj_H) (x y z w : pj_E) (r : List pj_E) : (E ++ x :: y :: z :: r).set (E.length + 2) w = E ++ x :: y :: w :: r := by simp
theorem fp_at3 (E : pj_H) (x y z w : pj_E) (r : List pj_E) : (E ++ x :: y :: z :: w :: r)[E.length + 3]? = some w := by simp
theorem fp_set3 (E : pj_H) (x y z w v : pj_E) (r : List pj_E) : (E ++ x :: y :: z :: w :: r).set (E.length + 3) v = E ++ x :: y :: z :: v :: r := by simp
theorem fp_old {E : pj_H} {i : Nat} {x : pj_E} (h : E[i]? = some x) (r : List pj_E) : (E ++ r)[i]? = some x := by
  rw [List.getElem?_append_left (List.getElem?_eq_some_iff.mp h).1]; exact h
/-- programs 0 .. M-1 carry cn, cd -/
def fc_imP (c : sx_C) (E : pj_H) (M : Nat) (cn cd : Nat → Int64) : Prop := ∀ k, k < M → ∃ (pi ai : Nat) (nn : Int32), sx_P c (nI k).toNatClampNeg = some (pi + 98) ∧ E[pi]? = some (.inr (4, [.ref ai, .int nn, .long (cn k), .long (cd k)]))
def fc_imB (cn cd : Nat → Int64) (k : Nat) (x : (Nat → Int64) × (Nat → Int64)) : (Nat → Int64) × (Nat → Int64) := (vp_updL x.1 (nI k).toNatClampNeg (cn k), vp_updL x.2 (nI k).toNatClampNeg (cd k))
theorem ly_imB {G : pj_G} {dd : Nat} {c : sx_C} {m : sx_M} {o : Nat → Int64} {E : pj_H} {Q : pj_O → pj_H → Prop} {kc ks : Nat} (k M : Nat) (t l p : Int32) (a n d cn cd : Nat → Int64) (hM : sx_i c.1 7 = nI M) (hM4 : M ≤ 4) (hP : fc_imP c E M cn cd) (hk : k < M) (kk : pj_J G mX1_image dd 46 [some (.ref 2), some (.int t), some (.ref (E.length + 98)), some (.int (nI k + 1))] [] (sx_mk c m o (fp_im E l p a (vp_updL n (nI k).toNatClampNeg (cn k)) (vp_updL d (nI k).toNatClampNeg (cd k)))) kc ks Q) : pj_J G mX1_image dd 46 [some (.ref 2), some (.int t), some (.ref (E.length + 98)), some (.int (nI k))] [] (sx_mk c m o (fp_im E l p a n d)) kc ks Q := by
  obtain ⟨pi, ai, nn, h1, h2⟩ := hP k hk
  refine pj_J.go (oX1_image G) 4 rfl trivial ?_
  refine pj_J.neg (by rw [hM, Int32.le_iff_toInt_le, nI_toInt (by omega), nI_toInt (by omega)]; omega) ?_
  refine pj_J.go (oX1_image G) 1 rfl trivial ?_
  refine pj_J.go1 (pc := 55) (oX1_image G) rfl (po_getD (lo := 18) (hi := 18) (k := 1) (n := 58) (by exact fp_at0 E _ _) (by decide) (by rfl)) trivial ?_
  refine pj_J.go (oX1_image G) 5 rfl ⟨by exact vp_in_lit (n := 4) (by omega), trivial⟩ ?_
  refine pj_J.seq (show va_rf (sx_P c (nI k).toNatClampNeg) :: _ = .ref (pi + 98) :: _ by rw [h1]; rfl) ?_
  refine pj_J.go1 (pc := 65) (oX1_image G) rfl (po_getD (lo := 4) (hi := 4) (k := 2) (n := 68) (by exact fp_old h2 _) (by decide) (by rfl)) trivial ?_
  refine pj_J.go1 (pc := 68) (oX1_image G) rfl (po_lastD (n := 69) (N := 4) (f := n) (by exact fp_at2 E _ _ _ _)) (by exact vp_in_lit (n := 4) (by omega)) ?_
  refine pj_J.heq (h' := sx_mk c m o (fp_im E l p a (vp_updL n (nI k).toNatClampNeg (cn k)) d)) (congrArg (sx_mk c m o) (fp_set2 E _ _ _ _ _)) ?_
  refine pj_J.go (oX1_image G) 1 rfl trivial ?_
  refine pj_J.go1 (pc := 70) (oX1_image G) rfl (po_getD (lo := 18) (hi := 18) (k := 2) (n := 73) (by exact fp_at0 E _ _) (by decide) (by rfl)) trivial ?_
  refine pj_J.go (oX1_image G) 5 rfl ⟨by exact vp_in_lit (n := 4) (by omega), trivial⟩ ?_
  refine pj_J.seq (show va_rf (sx_P c (nI k).toNatClampNeg) :: _ = .ref (pi + 98) :: _ by rw [h1]; rfl) ?_
  refine pj_J.go1 (pc := 80) (oX1_image G) rfl (po_getD (lo := 4) (hi := 4) (k := 3) (n := 83) (by exact fp_old h2 _) (by decide) (by rfl)) trivial ?_
  refine pj_J.go1 (pc := 83) (oX1_image G) rfl (po_lastD (n := 84) (N := 4) (f := d) (by exact fp_at3 E _ _ _ _ _)) (by exact vp_in_lit (n := 4) (by omega)) ?_
  refine pj_J.heq (h' := sx_mk c m o (fp_im E l p a (vp_updL n (nI k).toNatClampNeg (cn k)) (vp_updL d (nI k).toNatClampNeg (cd k)))) (congrArg (sx_mk c m o) (fp_set3 E _ _ _ _ _ _)) ?_
  refine pj_J.go (oX1_image G) 2 rfl trivial ?_
  exact kk
theorem lp_imB {G : pj_G} {dd : Nat} {c : sx_C} {m : sx_M} {o : Nat → Int64} {E : pj_H} {Q : pj_O → pj_H → Prop} {kc ks : Nat} (M : Nat) (t l p : Int32) (a n d cn cd : Nat → Int64) (hM : sx_i c.1 7 = nI M) (hM4 : M ≤ 4) (hP : fc_imP c E M cn cd) (kk : pj_J G mX1_image dd 90 [some (.ref 2), some (.int t), some (.ref (E.length + 98)), some (.int (nI M))] [] (sx_mk c m o (fp_im E l p a (it_up (fc_imB cn cd) M 0 (n, d)).1 (it_up (fc_imB cn cd) M 0 (n, d)).2)) kc ks Q) : pj_J G mX1_image dd 46 [some (.ref 2), some (.int t), some (.ref (E.length + 98)), some (.int (nI 0))] [] (sx_mk c m o (fp_im E l p a n d)) kc ks Q := by
  refine pj_for (σ := (Nat → Int64) × (Nat → Int64)) (fun (k : Nat) (x : (Nat → Int64) × (Nat → Int64)) => pj_J G mX1_image dd 46 [some (.ref 2), some (.int t), some (.ref (E.length + 98)), some (.int (nI k))] [] (sx_mk c m o (fp_im E l p a x.1 x.2)) kc ks Q) (fc_imB cn cd) (fun _ _ => True) M (fun k x hk hi => ⟨hi, fun kk => ?_⟩) M 0 (n, d) (by omega) trivial (fun _ => ?_)
  · refine ly_imB k M t l p a x.1 x.2 cn cd hM hM4 hP hk ?_
    rw [nI_add1]
    exact kk
  · refine pj_J.go (oX1_image G) 4 rfl trivial ?_
    refine pj_J.pos (by rw [hM]; exact Int32.le_refl _) ?_
    exact kk
