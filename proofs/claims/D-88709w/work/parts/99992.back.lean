/-! back, toss: what they refuse (by tools/gen_back.py) -/
set_option maxRecDepth 100000
theorem c_X1_backX {G : pj_G} {d : Nat} {c : sx_C} {m : sx_M} {o : Nat → Int64} {D : pj_H} (k : Int32) (hg : fc_isTape c.1 k = 0) : pj_Rt G mX1_back (d + 1) [.ref 2, .int k] (sx_mk c m o D) 0 0 (some (.int (-1))) (sx_mk c m o D) := by
  refine pj_Cn.start ?_
  refine pj_J.go (oX1_back G) 2 rfl trivial ?_
  refine pj_J.cal0 kX1_back_2 (c_X1_isTape (c := c) k) ⟨_, _, _, rfl, rfl⟩ pj_le0 pj_le0 pj_le0 ?_
  refine pj_J.go (oX1_back G) 1 rfl trivial ?_
  refine pj_J.pos hg ?_
  refine pj_J.go (oX1_back G) 1 rfl trivial ?_
  exact pj_iret dX1_back_9 rfl ⟨rfl, rfl⟩
theorem c_X1_back0 {G : pj_G} {d : Nat} {c : sx_C} {m : sx_M} {o : Nat → Int64} {D : pj_H} (k : Int32) (hg : ¬ fc_isTape c.1 k = 0) (hv : vp_in k 6) (ht : sx_T c k.toNatClampNeg = none) : pj_Rt G mX1_back (d + 1) [.ref 2, .int k] (sx_mk c m o D) 1 8 (some (.int ((fc_snag c.1 (-11)).1))) (sx_mk (sx_sM c ((fc_snag c.1 (-11)).2)) m o (D ++ [.inr (21, [])])) := by
  refine pj_Cn.start ?_
  refine pj_J.go (oX1_back G) 2 rfl trivial ?_
  refine pj_J.cal0 kX1_back_2 (c_X1_isTape (c := c) k) ⟨_, _, _, rfl, rfl⟩ pj_le0 pj_le0 pj_le0 ?_
  refine pj_J.go (oX1_back G) 1 rfl trivial ?_
  refine pj_J.neg hg ?_
  refine pj_J.go (oX1_back G) 4 rfl ⟨by exact hv, trivial⟩ ?_
  refine pj_J.seq (show va_rf (sx_tr k.toNatClampNeg) :: _ = .ref (53 + k.toNatClampNeg) :: _ by rw [(sx_tr_at hv).1]; rfl) ?_
  refine pj_J.go1 (pc := 16) (oX1_back G) rfl (po_getD (lo := 2) (hi := 2) (k := 0) (n := 19) (by exact sx_tp (sx_tr_at hv).2) (by decide) (by rfl)) trivial ?_
  refine pj_J.seq (show va_rf (sx_T c k.toNatClampNeg) :: _ = .null :: _ by rw [ht]; rfl) ?_
  refine pj_J.castN dX1_back_19 ?_
  refine pj_J.go (oX1_back G) 2 rfl trivial ?_
  refine pj_J.raiseN (kc := 0) (ks := 0) (rn_getf dX1_back_24 (pf_18 4 (by decide)) q1146 (Or.inl rfl) (Nat.le_of_ble_eq_true rfl)) whX1_back (Or.inl ⟨_, [some ("java/lang/NullPointerException", true)], 40, by decide, rfl, ⟨⟨by decide, by decide⟩, by decide, q1162, pj_xC 1 rfl, rfl⟩, ?_⟩)
  refine pj_J.heq (h' := sx_mk c m o (D ++ [.inr (21, [])])) rfl ?_
  refine pj_J.go (oX1_back G) 3 rfl trivial ?_
  refine pj_J.cal0 kX1_back_44 (c_X1_snag (c := c) (-11)) ⟨_, _, _, rfl, rfl⟩ pj_le0 pj_le0 pj_le0 ?_
  exact pj_iret dX1_back_47 rfl ⟨rfl, rfl⟩
theorem c_X1_backC {G : pj_G} {d : Nat} {c : sx_C} {m : sx_M} {o : Nat → Int64} {D : pj_H} (k : Int32) (hg : ¬ fc_isTape c.1 k = 0) (hv : vp_in k 6) {a : Nat} {C : String} (ht : sx_T c k.toNatClampNeg = some a) (hi : px_is (sx_mk c m o D) a C) (hC : (C, "PennyJudge$Image") ∈ px_eT) : pj_Rt G mX1_back (d + 1) [.ref 2, .int k] (sx_mk c m o D) 3 1010 (some (.int ((fc_snag c.1 (-12)).1))) (sx_mk (sx_sM c ((fc_snag c.1 (-12)).2)) m o (D ++ [.inr (90, []), .inr (90, []), .inr (22, [])])) := by
  refine pj_Cn.start ?_
  refine pj_J.go (oX1_back G) 2 rfl trivial ?_
  refine pj_J.cal0 kX1_back_2 (c_X1_isTape (c := c) k) ⟨_, _, _, rfl, rfl⟩ pj_le0 pj_le0 pj_le0 ?_
  refine pj_J.go (oX1_back G) 1 rfl trivial ?_
  refine pj_J.neg hg ?_
  refine pj_J.go (oX1_back G) 4 rfl ⟨by exact hv, trivial⟩ ?_
  refine pj_J.seq (show va_rf (sx_tr k.toNatClampNeg) :: _ = .ref (53 + k.toNatClampNeg) :: _ by rw [(sx_tr_at hv).1]; rfl) ?_
  refine pj_J.go1 (pc := 16) (oX1_back G) rfl (po_getD (lo := 2) (hi := 2) (k := 0) (n := 19) (by exact sx_tp (sx_tr_at hv).2) (by decide) (by rfl)) trivial ?_
  refine pj_J.seq (show va_rf (sx_T c k.toNatClampNeg) :: _ = .ref a :: _ by rw [ht]; rfl) ?_
  refine pj_J.raiseC (kc := 0) (ks := 0) (rc_cast dX1_back_19 q1132 hi hC (Nat.le_of_ble_eq_true rfl)) whX1_back (Or.inl ⟨_, [some ("java/lang/NullPointerException", false), some ("java/lang/ClassCastException", true)], 48, by decide, rfl, ⟨⟨by decide, by decide⟩, by decide, q1162, by decide, ⟨by decide, by decide⟩, by decide, q1187, pj_xC 3 rfl, rfl⟩, ?_⟩)
  refine pj_J.heq (h' := sx_mk c m o (D ++ [.inr (90, []), .inr (90, []), .inr (22, [])])) rfl ?_
  refine pj_J.go (oX1_back G) 3 rfl trivial ?_
  refine pj_J.cal0 kX1_back_52 (c_X1_snag (c := c) (-12)) ⟨_, _, _, rfl, rfl⟩ pj_le0 pj_le0 pj_le0 ?_
  exact pj_iret dX1_back_55 rfl ⟨rfl, rfl⟩
theorem c_X1_backF {G : pj_G} {d : Nat} {c : sx_C} {m : sx_M} {o : Nat → Int64} {D : pj_H} (k : Int32) (hg : ¬ fc_isTape c.1 k = 0) (hv : vp_in k 6) {i0 : Nat} {x y z w : Value} {n : Int32} (ht : sx_T c k.toNatClampNeg = some (i0 + 98)) (hi : D[i0]? = some (.inr (18, [x, y, z, w, .int n]))) (hn : ¬ n ≤ sx_i c.1 7) : pj_Rt G mX1_back (d + 1) [.ref 2, .int k] (sx_mk c m o D) 0 0 (some (.int (-3))) (sx_mk c m o D) := by
  refine pj_Cn.start ?_
  refine pj_J.go (oX1_back G) 2 rfl trivial ?_
  refine pj_J.cal0 kX1_back_2 (c_X1_isTape (c := c) k) ⟨_, _, _, rfl, rfl⟩ pj_le0 pj_le0 pj_le0 ?_
  refine pj_J.go (oX1_back G) 1 rfl trivial ?_
  refine pj_J.neg hg ?_
  refine pj_J.go (oX1_back G) 4 rfl ⟨by exact hv, trivial⟩ ?_
  refine pj_J.seq (show va_rf (sx_tr k.toNatClampNeg) :: _ = .ref (53 + k.toNatClampNeg) :: _ by rw [(sx_tr_at hv).1]; rfl) ?_
  refine pj_J.go1 (pc := 16) (oX1_back G) rfl (po_getD (lo := 2) (hi := 2) (k := 0) (n := 19) (by exact sx_tp (sx_tr_at hv).2) (by decide) (by rfl)) trivial ?_
  refine pj_J.seq (show va_rf (sx_T c k.toNatClampNeg) :: _ = .ref (i0 + 98) :: _ by rw [ht]; rfl) ?_
  refine pj_J.castY (C := "PennyJudge$Image") dX1_back_19 q1132 (Or.inl ⟨18, _, _, _, by decide, hi, rfl⟩) ?_
  refine pj_J.go (oX1_back G) 2 rfl trivial ?_
  refine pj_J.go1 (pc := 24) (oX1_back G) rfl (po_getD (lo := 18) (hi := 18) (k := 4) (n := 27) (by exact hi) (by decide) (by rfl)) trivial ?_
  refine pj_J.go (oX1_back G) 3 rfl trivial ?_
  refine pj_J.neg hn ?_
  refine pj_J.go (oX1_back G) 1 rfl trivial ?_
  exact pj_iret dX1_back_36 rfl ⟨rfl, rfl⟩
theorem c_X1_tossX {G : pj_G} {d : Nat} {c : sx_C} {m : sx_M} {o : Nat → Int64} {D : pj_H} (k : Int32) (hg : fc_isTape c.1 k = 0) : pj_Rt G mX1_toss (d + 1) [.ref 2, .int k] (sx_mk c m o D) 0 0 (some (.int (-1))) (sx_mk c m o D) := by
  refine pj_Cn.start ?_
  refine pj_J.go (oX1_toss G) 2 rfl trivial ?_
  refine pj_J.cal0 kX1_toss_2 (c_X1_isTape (c := c) k) ⟨_, _, _, rfl, rfl⟩ pj_le0 pj_le0 pj_le0 ?_
  refine pj_J.go (oX1_toss G) 1 rfl trivial ?_
  refine pj_J.pos hg ?_
  refine pj_J.go (oX1_toss G) 1 rfl trivial ?_
  exact pj_iret dX1_toss_9 rfl ⟨rfl, rfl⟩
theorem c_X1_toss0 {G : pj_G} {d : Nat} {c : sx_C} {m : sx_M} {o : Nat → Int64} {D : pj_H} (k : Int32) (hg : ¬ fc_isTape c.1 k = 0) (hv : vp_in k 6) (ht : sx_T c k.toNatClampNeg = none) : pj_Rt G mX1_toss (d + 1) [.ref 2, .int k] (sx_mk c m o D) 1 8 (some (.int ((fc_snag c.1 (-11)).1))) (sx_mk (sx_sM c ((fc_snag c.1 (-11)).2)) m o (D ++ [.inr (21, [])])) := by
  refine pj_Cn.start ?_
  refine pj_J.go (oX1_toss G) 2 rfl trivial ?_
  refine pj_J.cal0 kX1_toss_2 (c_X1_isTape (c := c) k) ⟨_, _, _, rfl, rfl⟩ pj_le0 pj_le0 pj_le0 ?_
  refine pj_J.go (oX1_toss G) 1 rfl trivial ?_
  refine pj_J.neg hg ?_
  refine pj_J.go (oX1_toss G) 4 rfl ⟨by exact hv, trivial⟩ ?_
  refine pj_J.seq (show va_rf (sx_tr k.toNatClampNeg) :: _ = .ref (53 + k.toNatClampNeg) :: _ by rw [(sx_tr_at hv).1]; rfl) ?_
  refine pj_J.go1 (pc := 16) (oX1_toss G) rfl (po_getD (lo := 2) (hi := 2) (k := 0) (n := 19) (by exact sx_tp (sx_tr_at hv).2) (by decide) (by rfl)) trivial ?_
  refine pj_J.seq (show va_rf (sx_T c k.toNatClampNeg) :: _ = .null :: _ by rw [ht]; rfl) ?_
  refine pj_J.castN dX1_toss_19 ?_
  refine pj_J.go (oX1_toss G) 2 rfl trivial ?_
  refine pj_J.raiseN (kc := 0) (ks := 0) (rn_invv (my := mX20_failure) (As := []) (n := 0) dX1_toss_24 (hy := []) (Or.inl ⟨rfl, q1209⟩) ⟨by decide +kernel, by decide +kernel⟩ q1206 q1207 q1208 rfl (Nat.le_of_ble_eq_true rfl)) whX1_toss (Or.inl ⟨_, [some ("java/lang/NullPointerException", true)], 31, by decide, rfl, ⟨⟨by decide, by decide⟩, by decide, q1162, pj_xC 1 rfl, rfl⟩, ?_⟩)
  refine pj_J.heq (h' := sx_mk c m o (D ++ [.inr (21, [])])) rfl ?_
  refine pj_J.go (oX1_toss G) 3 rfl trivial ?_
  refine pj_J.cal0 kX1_toss_35 (c_X1_snag (c := c) (-11)) ⟨_, _, _, rfl, rfl⟩ pj_le0 pj_le0 pj_le0 ?_
  exact pj_iret dX1_toss_38 rfl ⟨rfl, rfl⟩
theorem c_X1_tossC {G : pj_G} {d : Nat} {c : sx_C} {m : sx_M} {o : Nat → Int64} {D : pj_H} (k : Int32) (hg : ¬ fc_isTape c.1 k = 0) (hv : vp_in k 6) {a : Nat} {C : String} (ht : sx_T c k.toNatClampNeg = some a) (hi : px_is (sx_mk c m o D) a C) (hC : (C, "PennyJudge$Image") ∈ px_eT) : pj_Rt G mX1_toss (d + 1) [.ref 2, .int k] (sx_mk c m o D) 3 1010 (some (.int ((fc_snag c.1 (-12)).1))) (sx_mk (sx_sM c ((fc_snag c.1 (-12)).2)) m o (D ++ [.inr (90, []), .inr (90, []), .inr (22, [])])) := by
  refine pj_Cn.start ?_
  refine pj_J.go (oX1_toss G) 2 rfl trivial ?_
  refine pj_J.cal0 kX1_toss_2 (c_X1_isTape (c := c) k) ⟨_, _, _, rfl, rfl⟩ pj_le0 pj_le0 pj_le0 ?_
  refine pj_J.go (oX1_toss G) 1 rfl trivial ?_
  refine pj_J.neg hg ?_
  refine pj_J.go (oX1_toss G) 4 rfl ⟨by exact hv, trivial⟩ ?_
  refine pj_J.seq (show va_rf (sx_tr k.toNatClampNeg) :: _ = .ref (53 + k.toNatClampNeg) :: _ by rw [(sx_tr_at hv).1]; rfl) ?_
  refine pj_J.go1 (pc := 16) (oX1_toss G) rfl (po_getD (lo := 2) (hi := 2) (k := 0) (n := 19) (by exact sx_tp (sx_tr_at hv).2) (by decide) (by rfl)) trivial ?_
  refine pj_J.seq (show va_rf (sx_T c k.toNatClampNeg) :: _ = .ref a :: _ by rw [ht]; rfl) ?_
  refine pj_J.raiseC (kc := 0) (ks := 0) (rc_cast dX1_toss_19 q1132 hi hC (Nat.le_of_ble_eq_true rfl)) whX1_toss (Or.inl ⟨_, [some ("java/lang/NullPointerException", false), some ("java/lang/ClassCastException", true)], 39, by decide, rfl, ⟨⟨by decide, by decide⟩, by decide, q1162, by decide, ⟨by decide, by decide⟩, by decide, q1187, pj_xC 3 rfl, rfl⟩, ?_⟩)
  refine pj_J.heq (h' := sx_mk c m o (D ++ [.inr (90, []), .inr (90, []), .inr (22, [])])) rfl ?_
  refine pj_J.go (oX1_toss G) 3 rfl trivial ?_
  refine pj_J.cal0 kX1_toss_43 (c_X1_snag (c := c) (-12)) ⟨_, _, _, rfl, rfl⟩ pj_le0 pj_le0 pj_le0 ?_
  exact pj_iret dX1_toss_46 rfl ⟨rfl, rfl⟩
