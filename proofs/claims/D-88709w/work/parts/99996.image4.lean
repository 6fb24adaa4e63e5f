/-! image: the whole. Own work. -/
set_option maxRecDepth 100000
theorem c_X1_imageX {G : pj_G} {d : Nat} {c : sx_C} {m : sx_M} {o : Nat → Int64} {D : pj_H} (k : Int32) (hg : fc_isTape c.1 k = 0) {kc ks : Nat} : pj_Rt G mX1_image (d + 1) [.ref 2, .int k] (sx_mk c m o D) kc ks (some (.int (-1))) (sx_mk c m o D) := by
  refine pj_Cn.start ?_
  refine pj_J.go (oX1_image G) 2 rfl trivial ?_
  refine pj_J.cal0 kX1_image_2 (c_X1_isTape (c := c) k) ⟨_, _, _, rfl, rfl⟩ pj_le0 pj_le0 pj_le0 ?_
  refine pj_J.go (oX1_image G) 1 rfl trivial ?_
  refine pj_J.pos hg ?_
  refine pj_J.go (oX1_image G) 1 rfl trivial ?_
  exact pj_iret dX1_image_9 rfl ⟨rfl, rfl⟩
theorem lz_im {G : pj_G} {dd : Nat} {c : sx_C} {m : sx_M} {o : Nat → Int64} {E : pj_H} {Q : pj_O → pj_H → Prop} {kc ks : Nat} (k l p w : Int32) (a n d : Nat → Int64) (hv : vp_in k 6) (q : Q (.inl (some (.int (sx_i c.1 7)))) (sx_mk (sx_sT c k.toNatClampNeg (some (E.length + 98))) m o (fp_im E (sx_i c.1 9) (sx_i c.1 7) a n d))) : pj_J G mX1_image dd 90 [some (.ref 2), some (.int k), some (.ref (E.length + 98)), some (.int w)] [] (sx_mk c m o (fp_im E l p a n d)) kc ks Q := by
  refine pj_J.go (oX1_image G) 3 rfl trivial ?_
  refine pj_J.go1 (pc := 95) (oX1_image G) rfl (po_putD (cnd := none) (lo := 18) (hi := 18) (k := 3) (ty := .int) (n := 98) (by exact fp_at0 E _ _) (by decide) (by exact Nat.le_of_ble_eq_true rfl) (by rfl)) trivial ?_
  refine pj_J.heq (h' := sx_mk c m o (fp_im E (sx_i c.1 9) p a n d)) (congrArg (sx_mk c m o) (fp_set0 E _ _ _)) ?_
  refine pj_J.go (oX1_image G) 3 rfl trivial ?_
  refine pj_J.go1 (pc := 103) (oX1_image G) rfl (po_putD (cnd := none) (lo := 18) (hi := 18) (k := 4) (ty := .int) (n := 106) (by exact fp_at0 E _ _) (by decide) (by exact Nat.le_of_ble_eq_true rfl) (by rfl)) trivial ?_
  refine pj_J.heq (h' := sx_mk c m o (fp_im E (sx_i c.1 9) (sx_i c.1 7) a n d)) (congrArg (sx_mk c m o) (fp_set0 E _ _ _)) ?_
  refine pj_J.go (oX1_image G) 4 rfl ⟨by exact hv, trivial⟩ ?_
  refine pj_J.seq (show va_rf (sx_tr k.toNatClampNeg) :: _ = .ref (53 + k.toNatClampNeg) :: _ by rw [(sx_tr_at hv).1]; rfl) ?_
  refine pj_J.go (oX1_image G) 1 rfl trivial ?_
  refine pj_J.go1 (pc := 113) (oX1_image G) rfl (po_putD (cnd := none) (lo := 2) (hi := 2) (k := 0) (ty := .object "java/lang/Object") (n := 116) (by exact sx_tp (sx_tr_at hv).2) (by decide) (by exact Nat.one_pos) rfl) trivial ?_
  refine pj_J.heq (h' := sx_mk (sx_sT c k.toNatClampNeg (some (E.length + 98))) m o (fp_im E (sx_i c.1 9) (sx_i c.1 7) a n d)) (sx_tps (sx_tr_at hv).2 (some (E.length + 98))) ?_
  refine pj_J.go (oX1_image G) 2 rfl trivial ?_
  exact pj_iret dX1_image_120 rfl q
theorem c_X1_imageG {G : pj_G} {d : Nat} {c : sx_C} {m : sx_M} {o : Nat → Int64} {D : pj_H} (k : Int32) (hg : ¬ fc_isTape c.1 k = 0) (hv : vp_in k 6) (M : Nat) (cn cd : Nat → Int64) (hM : sx_i c.1 7 = nI M) (hM4 : M ≤ 4) (hP : fc_imP c D M cn cd) : pj_Rt G mX1_image (d + 1) [.ref 2, .int k] (sx_mk c m o D) 4 21 (some (.int (sx_i c.1 7))) (sx_mk (sx_sT c k.toNatClampNeg (some (D.length + 98))) m o (fp_im D (sx_i c.1 9) (sx_i c.1 7) (it_up (fc_imA c) 8 0 (fun _ => 0)) (it_up (fc_imB cn cd) M 0 (fun _ => 0, fun _ => 0)).1 (it_up (fc_imB cn cd) M 0 (fun _ => 0, fun _ => 0)).2)) := by
  refine pj_Cn.start ?_
  refine pj_J.go (oX1_image G) 2 rfl trivial ?_
  refine pj_J.cal0 kX1_image_2 (c_X1_isTape (c := c) k) ⟨_, _, _, rfl, rfl⟩ pj_le0 pj_le0 pj_le0 ?_
  refine pj_J.go (oX1_image G) 1 rfl trivial ?_
  refine pj_J.neg hg ?_
  refine pj_J.go (oX1_image G) 2 rfl trivial ?_
  refine pj_J.eq rfl (st' := [.ref (D.length + 98), .ref (D.length + 98)]) rfl (h' := sx_mk c m o (D ++ [fp_im0])) rfl ?_
  refine pj_J.call (k2 := 0) (s2 := 0) kX1_image_14 (as := [.ref (D.length + 98)]) (rest := [.ref (D.length + 98)]) rfl rfl (Nat.le_of_ble_eq_true rfl) ⟨_, _, rfl⟩ (Nat.le_of_ble_eq_true rfl) c_X20_init (fun x y q => by cases q.1) (Nat.le_refl _) (Nat.le_refl _) (fun v h' q => ?_)
  obtain ⟨q1, q2⟩ := q
  cases q1
  subst q2
  refine pj_J.go (oX1_image G) 3 rfl trivial ?_
  refine pj_J.drop (L' := [some (.ref 2), some (.int k), some (.ref (D.length + 98)), some (.int (nI 0))]) ⟨rfl, rfl, rfl, rfl, trivial⟩ ?_
  refine lp_imA k 0 0 _ _ _ ?_
  generalize it_up (fc_imA c) 8 0 (fun _ => 0) = A
  refine pj_J.go (oX1_image G) 2 rfl trivial ?_
  refine pj_J.drop (L' := [some (.ref 2), some (.int k), some (.ref (D.length + 98)), some (.int (nI 0))]) ⟨rfl, rfl, rfl, rfl, trivial⟩ ?_
  refine lp_imB M k 0 0 A _ _ cn cd hM hM4 hP ?_
  generalize it_up (fc_imB cn cd) M 0 (fun _ => 0, fun _ => 0) = B
  exact lz_im k 0 0 _ A B.1 B.2 hv ⟨rfl, rfl⟩
