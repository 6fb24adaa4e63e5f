/-! put (by tools/gen_put.py) -/
set_option maxRecDepth 100000
theorem po_bastD {n a N : Nat} {i : Int32} {x : Int32} {f : Nat → Int32} {L : pj_L} {r : List Value} {h : pj_H} {kc ks : Nat} (ha : h[a]? = some (.inl (4, (N, .inl f)))) : po_bast n L (.int x :: .int i :: .ref a :: r) h kc ks = some (some (vp_in i N), (n, L, r, h.set a (.inl (4, (N, .inl (upd f i.toNatClampNeg (vp_nar .byte x))))), kc, ks)) := by
  unfold po_bast
  simp [ha]
theorem po_sastD {n a N : Nat} {i : Int32} {x : Int32} {f : Nat → Int32} {L : pj_L} {r : List Value} {h : pj_H} {kc ks : Nat} (ha : h[a]? = some (.inl (5, (N, .inl f)))) : po_sast n L (.int x :: .int i :: .ref a :: r) h kc ks = some (some (vp_in i N), (n, L, r, h.set a (.inl (5, (N, .inl (upd f i.toNatClampNeg (vp_nar .short x))))), kc, ks)) := by
  unfold po_sast
  simp [ha]
theorem po_iastD {n a N : Nat} {i : Int32} {x : Int32} {f : Nat → Int32} {L : pj_L} {r : List Value} {h : pj_H} {kc ks : Nat} (ha : h[a]? = some (.inl (0, (N, .inl f)))) : po_iast n L (.int x :: .int i :: .ref a :: r) h kc ks = some (some (vp_in i N), (n, L, r, h.set a (.inl (0, (N, .inl (upd f i.toNatClampNeg x)))), kc, ks)) := by
  unfold po_iast
  simp [ha]
theorem po_lastD {n a N : Nat} {i : Int32} {x : Int64} {f : Nat → Int64} {L : pj_L} {r : List Value} {h : pj_H} {kc ks : Nat} (ha : h[a]? = some (.inl (1, (N, .inr (.inl f))))) : po_last n L (.long x :: .int i :: .ref a :: r) h kc ks = some (some (vp_in i N), (n, L, r, h.set a (.inl (1, (N, .inr (.inl (vp_updL f i.toNatClampNeg x))))), kc, ks)) := by
  unfold po_last
  simp [ha]
theorem c_X1_putX {G : pj_G} {d : Nat} {c : sx_C} {m : sx_M} {o : Nat → Int64} {D : pj_H} (k i : Int32) (v : Int64) (hg : fc_isTape c.1 k = 0) : pj_Rt G mX1_put (d + 1) [.ref 2, .int k, .int i, .long v] (sx_mk c m o D) 0 0 (some (.int (-1))) (sx_mk c m o D) := by
  refine pj_Cn.start ?_
  refine pj_J.go (oX1_put G) 2 rfl trivial ?_
  refine pj_J.cal0 kX1_put_2 (c_X1_isTape (c := c) k) ⟨_, _, _, rfl, rfl⟩ pj_le0 pj_le0 pj_le0 ?_
  refine pj_J.go (oX1_put G) 1 rfl trivial ?_
  refine pj_J.pos hg ?_
  refine pj_J.go (oX1_put G) 1 rfl trivial ?_
  exact pj_iret dX1_put_9 rfl ⟨rfl, rfl⟩
theorem c_X1_putB {G : pj_G} {d : Nat} {c : sx_C} {m : sx_M} {o : Nat → Int64} {D : pj_H} (k i : Int32) (v : Int64) (hg : ¬ fc_isTape c.1 k = 0) (hv : vp_in k 6) {i0 N : Nat} {f : Nat → Int32} (ht : sx_T c k.toNatClampNeg = some (i0 + 98)) (ha : (sx_mk c m o D)[i0 + 98]? = some (.inl (4, (N, .inl f)))) (hin : vp_in i N) : pj_Rt G mX1_put (d + 1) [.ref 2, .int k, .int i, .long v] (sx_mk c m o D) 0 0 (some (.int 1)) (sx_mk c m o (D.set i0 (.inl (4, (N, .inl (upd f i.toNatClampNeg (vp_nar .byte (vp_nar .byte v.toInt32)))))))) := by
  refine pj_Cn.start ?_
  refine pj_J.go (oX1_put G) 2 rfl trivial ?_
  refine pj_J.cal0 kX1_put_2 (c_X1_isTape (c := c) k) ⟨_, _, _, rfl, rfl⟩ pj_le0 pj_le0 pj_le0 ?_
  refine pj_J.go (oX1_put G) 1 rfl trivial ?_
  refine pj_J.neg hg ?_
  refine pj_J.go (oX1_put G) 4 rfl ⟨by exact hv, trivial⟩ ?_
  refine pj_J.seq (show va_rf (sx_tr k.toNatClampNeg) :: _ = .ref (53 + k.toNatClampNeg) :: _ by rw [(sx_tr_at hv).1]; rfl) ?_
  refine pj_J.go1 (pc := 16) (oX1_put G) rfl (po_getD (lo := 2) (hi := 2) (k := 0) (n := 19) (by exact sx_tp (sx_tr_at hv).2) (by decide) (by rfl)) trivial ?_
  refine pj_J.seq (show va_rf (sx_T c k.toNatClampNeg) :: _ = .ref (i0 + 98) :: _ by rw [ht]; rfl) ?_
  refine pj_J.go (oX1_put G) 1 rfl trivial ?_
  refine pj_J.go (oX1_put G) 1 rfl trivial ?_
  refine pj_J.instY dX1_put_23 q1279 (Or.inr ⟨_, _, ha, Or.inr (Or.inr (Or.inl ⟨rfl, rfl⟩))⟩) ?_
  refine pj_J.go (oX1_put G) 1 rfl trivial ?_
  refine pj_J.neg (by decide) ?_
  refine pj_J.go (oX1_put G) 1 rfl trivial ?_
  refine pj_J.castY dX1_put_31 q1279 (Or.inr ⟨_, _, ha, Or.inr (Or.inr (Or.inl ⟨rfl, rfl⟩))⟩) ?_
  refine pj_J.go (oX1_put G) 4 rfl trivial ?_
  refine pj_J.go1 (pc := 38) (oX1_put G) rfl (po_bastD (n := 39) ha) hin ?_
  refine pj_J.heq (h' := sx_mk c m o (D.set i0 (.inl (4, (N, .inl (upd f i.toNatClampNeg (vp_nar .byte (vp_nar .byte v.toInt32)))))))) sx_set ?_
  refine pj_J.go (oX1_put G) 3 rfl trivial ?_
  exact pj_iret dX1_put_122 rfl ⟨rfl, rfl⟩
theorem c_X1_putBO {G : pj_G} {d : Nat} {c : sx_C} {m : sx_M} {o : Nat → Int64} {D : pj_H} (k i : Int32) (v : Int64) (hg : ¬ fc_isTape c.1 k = 0) (hv : vp_in k 6) {i0 N : Nat} {f : Nat → Int32} (ht : sx_T c k.toNatClampNeg = some (i0 + 98)) (ha : (sx_mk c m o D)[i0 + 98]? = some (.inl (4, (N, .inl f)))) (hN : N < 2 ^ 31) (hin : ¬ vp_in i N) : pj_Rt G mX1_put (d + 1) [.ref 2, .int k, .int i, .long v] (sx_mk c m o D) 3 1010 (some (.int ((fc_snag c.1 (-13)).1))) (sx_mk (sx_sM c ((fc_snag c.1 (-13)).2)) m o (D ++ [.inr (90, []), .inr (90, []), .inr (23, [])])) := by
  refine pj_Cn.start ?_
  refine pj_J.go (oX1_put G) 2 rfl trivial ?_
  refine pj_J.cal0 kX1_put_2 (c_X1_isTape (c := c) k) ⟨_, _, _, rfl, rfl⟩ pj_le0 pj_le0 pj_le0 ?_
  refine pj_J.go (oX1_put G) 1 rfl trivial ?_
  refine pj_J.neg hg ?_
  refine pj_J.go (oX1_put G) 4 rfl ⟨by exact hv, trivial⟩ ?_
  refine pj_J.seq (show va_rf (sx_tr k.toNatClampNeg) :: _ = .ref (53 + k.toNatClampNeg) :: _ by rw [(sx_tr_at hv).1]; rfl) ?_
  refine pj_J.go1 (pc := 16) (oX1_put G) rfl (po_getD (lo := 2) (hi := 2) (k := 0) (n := 19) (by exact sx_tp (sx_tr_at hv).2) (by decide) (by rfl)) trivial ?_
  refine pj_J.seq (show va_rf (sx_T c k.toNatClampNeg) :: _ = .ref (i0 + 98) :: _ by rw [ht]; rfl) ?_
  refine pj_J.go (oX1_put G) 1 rfl trivial ?_
  refine pj_J.go (oX1_put G) 1 rfl trivial ?_
  refine pj_J.instY dX1_put_23 q1279 (Or.inr ⟨_, _, ha, Or.inr (Or.inr (Or.inl ⟨rfl, rfl⟩))⟩) ?_
  refine pj_J.go (oX1_put G) 1 rfl trivial ?_
  refine pj_J.neg (by decide) ?_
  refine pj_J.go (oX1_put G) 1 rfl trivial ?_
  refine pj_J.castY dX1_put_31 q1279 (Or.inr ⟨_, _, ha, Or.inr (Or.inr (Or.inl ⟨rfl, rfl⟩))⟩) ?_
  refine pj_J.go (oX1_put G) 4 rfl trivial ?_
  refine pj_J.raiseA (kc := 0) (ks := 0) (ro_bastore (ty := .byte) ha (by decide) (fun _ => rfl) hN hin dX1_put_38 (Nat.le_of_ble_eq_true rfl)) whX1_put (Or.inl ⟨_, [some ("java/lang/NullPointerException", false), some ("java/lang/ClassCastException", false), some ("java/lang/ArrayIndexOutOfBoundsException", true)], 112, by decide, rfl, ⟨⟨by decide, by decide⟩, by decide, q1162, by decide, ⟨by decide, by decide⟩, by decide, q1187, by decide, ⟨by decide, by decide⟩, by decide, q1233, pj_xC 5 rfl, rfl⟩, ?_⟩)
  refine pj_J.heq (h' := sx_mk c m o (D ++ [.inr (90, []), .inr (90, []), .inr (23, [])])) rfl ?_
  refine pj_J.go (oX1_put G) 3 rfl trivial ?_
  refine pj_J.cal0 kX1_put_117 (c_X1_snag (c := c) (-13)) ⟨_, _, _, rfl, rfl⟩ pj_le0 pj_le0 pj_le0 ?_
  exact pj_iret dX1_put_120 rfl ⟨rfl, rfl⟩
theorem c_X1_putS {G : pj_G} {d : Nat} {c : sx_C} {m : sx_M} {o : Nat → Int64} {D : pj_H} (k i : Int32) (v : Int64) (hg : ¬ fc_isTape c.1 k = 0) (hv : vp_in k 6) {i0 N : Nat} {f : Nat → Int32} (ht : sx_T c k.toNatClampNeg = some (i0 + 98)) (ha : (sx_mk c m o D)[i0 + 98]? = some (.inl (5, (N, .inl f)))) (hin : vp_in i N) : pj_Rt G mX1_put (d + 1) [.ref 2, .int k, .int i, .long v] (sx_mk c m o D) 0 0 (some (.int 1)) (sx_mk c m o (D.set i0 (.inl (5, (N, .inl (upd f i.toNatClampNeg (vp_nar .short (vp_nar .short v.toInt32)))))))) := by
  refine pj_Cn.start ?_
  refine pj_J.go (oX1_put G) 2 rfl trivial ?_
  refine pj_J.cal0 kX1_put_2 (c_X1_isTape (c := c) k) ⟨_, _, _, rfl, rfl⟩ pj_le0 pj_le0 pj_le0 ?_
  refine pj_J.go (oX1_put G) 1 rfl trivial ?_
  refine pj_J.neg hg ?_
  refine pj_J.go (oX1_put G) 4 rfl ⟨by exact hv, trivial⟩ ?_
  refine pj_J.seq (show va_rf (sx_tr k.toNatClampNeg) :: _ = .ref (53 + k.toNatClampNeg) :: _ by rw [(sx_tr_at hv).1]; rfl) ?_
  refine pj_J.go1 (pc := 16) (oX1_put G) rfl (po_getD (lo := 2) (hi := 2) (k := 0) (n := 19) (by exact sx_tp (sx_tr_at hv).2) (by decide) (by rfl)) trivial ?_
  refine pj_J.seq (show va_rf (sx_T c k.toNatClampNeg) :: _ = .ref (i0 + 98) :: _ by rw [ht]; rfl) ?_
  refine pj_J.go (oX1_put G) 1 rfl trivial ?_
  refine pj_J.go (oX1_put G) 1 rfl trivial ?_
  refine pj_J.instNo dX1_put_23 q1279 (Or.inr ⟨_, _, ha, Or.inr (Or.inr (Or.inr ⟨rfl, rfl⟩))⟩) (by decide) ?_
  refine pj_J.go (oX1_put G) 1 rfl trivial ?_
  refine pj_J.pos rfl ?_
  refine pj_J.go (oX1_put G) 1 rfl trivial ?_
  refine pj_J.instY dX1_put_44 q1255 (Or.inr ⟨_, _, ha, Or.inr (Or.inr (Or.inr ⟨rfl, rfl⟩))⟩) ?_
  refine pj_J.go (oX1_put G) 1 rfl trivial ?_
  refine pj_J.neg (by decide) ?_
  refine pj_J.go (oX1_put G) 1 rfl trivial ?_
  refine pj_J.castY dX1_put_52 q1255 (Or.inr ⟨_, _, ha, Or.inr (Or.inr (Or.inr ⟨rfl, rfl⟩))⟩) ?_
  refine pj_J.go (oX1_put G) 4 rfl trivial ?_
  refine pj_J.go1 (pc := 59) (oX1_put G) rfl (po_sastD (n := 60) ha) hin ?_
  refine pj_J.heq (h' := sx_mk c m o (D.set i0 (.inl (5, (N, .inl (upd f i.toNatClampNeg (vp_nar .short (vp_nar .short v.toInt32)))))))) sx_set ?_
  refine pj_J.go (oX1_put G) 3 rfl trivial ?_
  exact pj_iret dX1_put_122 rfl ⟨rfl, rfl⟩
theorem c_X1_putSO {G : pj_G} {d : Nat} {c : sx_C} {m : sx_M} {o : Nat → Int64} {D : pj_H} (k i : Int32) (v : Int64) (hg : ¬ fc_isTape c.1 k = 0) (hv : vp_in k 6) {i0 N : Nat} {f : Nat → Int32} (ht : sx_T c k.toNatClampNeg = some (i0 + 98)) (ha : (sx_mk c m o D)[i0 + 98]? = some (.inl (5, (N, .inl f)))) (hN : N < 2 ^ 31) (hin : ¬ vp_in i N) : pj_Rt G mX1_put (d + 1) [.ref 2, .int k, .int i, .long v] (sx_mk c m o D) 3 1010 (some (.int ((fc_snag c.1 (-13)).1))) (sx_mk (sx_sM c ((fc_snag c.1 (-13)).2)) m o (D ++ [.inr (90, []), .inr (90, []), .inr (23, [])])) := by
  refine pj_Cn.start ?_
  refine pj_J.go (oX1_put G) 2 rfl trivial ?_
  refine pj_J.cal0 kX1_put_2 (c_X1_isTape (c := c) k) ⟨_, _, _, rfl, rfl⟩ pj_le0 pj_le0 pj_le0 ?_
  refine pj_J.go (oX1_put G) 1 rfl trivial ?_
  refine pj_J.neg hg ?_
  refine pj_J.go (oX1_put G) 4 rfl ⟨by exact hv, trivial⟩ ?_
  refine pj_J.seq (show va_rf (sx_tr k.toNatClampNeg) :: _ = .ref (53 + k.toNatClampNeg) :: _ by rw [(sx_tr_at hv).1]; rfl) ?_
  refine pj_J.go1 (pc := 16) (oX1_put G) rfl (po_getD (lo := 2) (hi := 2) (k := 0) (n := 19) (by exact sx_tp (sx_tr_at hv).2) (by decide) (by rfl)) trivial ?_
  refine pj_J.seq (show va_rf (sx_T c k.toNatClampNeg) :: _ = .ref (i0 + 98) :: _ by rw [ht]; rfl) ?_
  refine pj_J.go (oX1_put G) 1 rfl trivial ?_
  refine pj_J.go (oX1_put G) 1 rfl trivial ?_
  refine pj_J.instNo dX1_put_23 q1279 (Or.inr ⟨_, _, ha, Or.inr (Or.inr (Or.inr ⟨rfl, rfl⟩))⟩) (by decide) ?_
  refine pj_J.go (oX1_put G) 1 rfl trivial ?_
  refine pj_J.pos rfl ?_
  refine pj_J.go (oX1_put G) 1 rfl trivial ?_
  refine pj_J.instY dX1_put_44 q1255 (Or.inr ⟨_, _, ha, Or.inr (Or.inr (Or.inr ⟨rfl, rfl⟩))⟩) ?_
  refine pj_J.go (oX1_put G) 1 rfl trivial ?_
  refine pj_J.neg (by decide) ?_
  refine pj_J.go (oX1_put G) 1 rfl trivial ?_
  refine pj_J.castY dX1_put_52 q1255 (Or.inr ⟨_, _, ha, Or.inr (Or.inr (Or.inr ⟨rfl, rfl⟩))⟩) ?_
  refine pj_J.go (oX1_put G) 4 rfl trivial ?_
  refine pj_J.raiseA (kc := 0) (ks := 0) (ro_sastore (ty := .short) ha (by decide) (fun _ => rfl) hN hin dX1_put_59 (Nat.le_of_ble_eq_true rfl)) whX1_put (Or.inl ⟨_, [some ("java/lang/NullPointerException", false), some ("java/lang/ClassCastException", false), some ("java/lang/ArrayIndexOutOfBoundsException", true)], 112, by decide, rfl, ⟨⟨by decide, by decide⟩, by decide, q1162, by decide, ⟨by decide, by decide⟩, by decide, q1187, by decide, ⟨by decide, by decide⟩, by decide, q1233, pj_xC 5 rfl, rfl⟩, ?_⟩)
  refine pj_J.heq (h' := sx_mk c m o (D ++ [.inr (90, []), .inr (90, []), .inr (23, [])])) rfl ?_
  refine pj_J.go (oX1_put G) 3 rfl trivial ?_
  refine pj_J.cal0 kX1_put_117 (c_X1_snag (c := c) (-13)) ⟨_, _, _, rfl, rfl⟩ pj_le0 pj_le0 pj_le0 ?_
  exact pj_iret dX1_put_120 rfl ⟨rfl, rfl⟩
theorem c_X1_putI {G : pj_G} {d : Nat} {c : sx_C} {m : sx_M} {o : Nat → Int64} {D : pj_H} (k i : Int32) (v : Int64) (hg : ¬ fc_isTape c.1 k = 0) (hv : vp_in k 6) {i0 N : Nat} {f : Nat → Int32} (ht : sx_T c k.toNatClampNeg = some (i0 + 98)) (ha : (sx_mk c m o D)[i0 + 98]? = some (.inl (0, (N, .inl f)))) (hin : vp_in i N) : pj_Rt G mX1_put (d + 1) [.ref 2, .int k, .int i, .long v] (sx_mk c m o D) 0 0 (some (.int 1)) (sx_mk c m o (D.set i0 (.inl (0, (N, .inl (upd f i.toNatClampNeg (v.toInt32))))))) := by
  refine pj_Cn.start ?_
  refine pj_J.go (oX1_put G) 2 rfl trivial ?_
  refine pj_J.cal0 kX1_put_2 (c_X1_isTape (c := c) k) ⟨_, _, _, rfl, rfl⟩ pj_le0 pj_le0 pj_le0 ?_
  refine pj_J.go (oX1_put G) 1 rfl trivial ?_
  refine pj_J.neg hg ?_
  refine pj_J.go (oX1_put G) 4 rfl ⟨by exact hv, trivial⟩ ?_
  refine pj_J.seq (show va_rf (sx_tr k.toNatClampNeg) :: _ = .ref (53 + k.toNatClampNeg) :: _ by rw [(sx_tr_at hv).1]; rfl) ?_
  refine pj_J.go1 (pc := 16) (oX1_put G) rfl (po_getD (lo := 2) (hi := 2) (k := 0) (n := 19) (by exact sx_tp (sx_tr_at hv).2) (by decide) (by rfl)) trivial ?_
  refine pj_J.seq (show va_rf (sx_T c k.toNatClampNeg) :: _ = .ref (i0 + 98) :: _ by rw [ht]; rfl) ?_
  refine pj_J.go (oX1_put G) 1 rfl trivial ?_
  refine pj_J.go (oX1_put G) 1 rfl trivial ?_
  refine pj_J.instNo dX1_put_23 q1279 (Or.inr ⟨_, _, ha, Or.inl ⟨rfl, rfl⟩⟩) (by decide) ?_
  refine pj_J.go (oX1_put G) 1 rfl trivial ?_
  refine pj_J.pos rfl ?_
  refine pj_J.go (oX1_put G) 1 rfl trivial ?_
  refine pj_J.instNo dX1_put_44 q1255 (Or.inr ⟨_, _, ha, Or.inl ⟨rfl, rfl⟩⟩) (by decide) ?_
  refine pj_J.go (oX1_put G) 1 rfl trivial ?_
  refine pj_J.pos rfl ?_
  refine pj_J.go (oX1_put G) 1 rfl trivial ?_
  refine pj_J.instY dX1_put_65 q1256 (Or.inr ⟨_, _, ha, Or.inl ⟨rfl, rfl⟩⟩) ?_
  refine pj_J.go (oX1_put G) 1 rfl trivial ?_
  refine pj_J.neg (by decide) ?_
  refine pj_J.go (oX1_put G) 1 rfl trivial ?_
  refine pj_J.castY dX1_put_73 q1256 (Or.inr ⟨_, _, ha, Or.inl ⟨rfl, rfl⟩⟩) ?_
  refine pj_J.go (oX1_put G) 3 rfl trivial ?_
  refine pj_J.go1 (pc := 79) (oX1_put G) rfl (po_iastD (n := 80) ha) hin ?_
  refine pj_J.heq (h' := sx_mk c m o (D.set i0 (.inl (0, (N, .inl (upd f i.toNatClampNeg (v.toInt32))))))) sx_set ?_
  refine pj_J.go (oX1_put G) 3 rfl trivial ?_
  exact pj_iret dX1_put_122 rfl ⟨rfl, rfl⟩
theorem c_X1_putIO {G : pj_G} {d : Nat} {c : sx_C} {m : sx_M} {o : Nat → Int64} {D : pj_H} (k i : Int32) (v : Int64) (hg : ¬ fc_isTape c.1 k = 0) (hv : vp_in k 6) {i0 N : Nat} {f : Nat → Int32} (ht : sx_T c k.toNatClampNeg = some (i0 + 98)) (ha : (sx_mk c m o D)[i0 + 98]? = some (.inl (0, (N, .inl f)))) (hN : N < 2 ^ 31) (hin : ¬ vp_in i N) : pj_Rt G mX1_put (d + 1) [.ref 2, .int k, .int i, .long v] (sx_mk c m o D) 3 1010 (some (.int ((fc_snag c.1 (-13)).1))) (sx_mk (sx_sM c ((fc_snag c.1 (-13)).2)) m o (D ++ [.inr (90, []), .inr (90, []), .inr (23, [])])) := by
  refine pj_Cn.start ?_
  refine pj_J.go (oX1_put G) 2 rfl trivial ?_
  refine pj_J.cal0 kX1_put_2 (c_X1_isTape (c := c) k) ⟨_, _, _, rfl, rfl⟩ pj_le0 pj_le0 pj_le0 ?_
  refine pj_J.go (oX1_put G) 1 rfl trivial ?_
  refine pj_J.neg hg ?_
  refine pj_J.go (oX1_put G) 4 rfl ⟨by exact hv, trivial⟩ ?_
  refine pj_J.seq (show va_rf (sx_tr k.toNatClampNeg) :: _ = .ref (53 + k.toNatClampNeg) :: _ by rw [(sx_tr_at hv).1]; rfl) ?_
  refine pj_J.go1 (pc := 16) (oX1_put G) rfl (po_getD (lo := 2) (hi := 2) (k := 0) (n := 19) (by exact sx_tp (sx_tr_at hv).2) (by decide) (by rfl)) trivial ?_
  refine pj_J.seq (show va_rf (sx_T c k.toNatClampNeg) :: _ = .ref (i0 + 98) :: _ by rw [ht]; rfl) ?_
  refine pj_J.go (oX1_put G) 1 rfl trivial ?_
  refine pj_J.go (oX1_put G) 1 rfl trivial ?_
  refine pj_J.instNo dX1_put_23 q1279 (Or.inr ⟨_, _, ha, Or.inl ⟨rfl, rfl⟩⟩) (by decide) ?_
  refine pj_J.go (oX1_put G) 1 rfl trivial ?_
  refine pj_J.pos rfl ?_
  refine pj_J.go (oX1_put G) 1 rfl trivial ?_
  refine pj_J.instNo dX1_put_44 q1255 (Or.inr ⟨_, _, ha, Or.inl ⟨rfl, rfl⟩⟩) (by decide) ?_
  refine pj_J.go (oX1_put G) 1 rfl trivial ?_
  refine pj_J.pos rfl ?_
  refine pj_J.go (oX1_put G) 1 rfl trivial ?_
  refine pj_J.instY dX1_put_65 q1256 (Or.inr ⟨_, _, ha, Or.inl ⟨rfl, rfl⟩⟩) ?_
  refine pj_J.go (oX1_put G) 1 rfl trivial ?_
  refine pj_J.neg (by decide) ?_
  refine pj_J.go (oX1_put G) 1 rfl trivial ?_
  refine pj_J.castY dX1_put_73 q1256 (Or.inr ⟨_, _, ha, Or.inl ⟨rfl, rfl⟩⟩) ?_
  refine pj_J.go (oX1_put G) 3 rfl trivial ?_
  refine pj_J.raiseA (kc := 0) (ks := 0) (ro_iastore (ty := .int) ha (by decide) (fun _ => rfl) hN hin dX1_put_79 (Nat.le_of_ble_eq_true rfl)) whX1_put (Or.inl ⟨_, [some ("java/lang/NullPointerException", false), some ("java/lang/ClassCastException", false), some ("java/lang/ArrayIndexOutOfBoundsException", true)], 112, by decide, rfl, ⟨⟨by decide, by decide⟩, by decide, q1162, by decide, ⟨by decide, by decide⟩, by decide, q1187, by decide, ⟨by decide, by decide⟩, by decide, q1233, pj_xC 5 rfl, rfl⟩, ?_⟩)
  refine pj_J.heq (h' := sx_mk c m o (D ++ [.inr (90, []), .inr (90, []), .inr (23, [])])) rfl ?_
  refine pj_J.go (oX1_put G) 3 rfl trivial ?_
  refine pj_J.cal0 kX1_put_117 (c_X1_snag (c := c) (-13)) ⟨_, _, _, rfl, rfl⟩ pj_le0 pj_le0 pj_le0 ?_
  exact pj_iret dX1_put_120 rfl ⟨rfl, rfl⟩
theorem c_X1_putJ {G : pj_G} {d : Nat} {c : sx_C} {m : sx_M} {o : Nat → Int64} {D : pj_H} (k i : Int32) (v : Int64) (hg : ¬ fc_isTape c.1 k = 0) (hv : vp_in k 6) {i0 N : Nat} {f : Nat → Int64} (ht : sx_T c k.toNatClampNeg = some (i0 + 98)) (ha : (sx_mk c m o D)[i0 + 98]? = some (.inl (1, (N, .inr (.inl f))))) (hin : vp_in i N) : pj_Rt G mX1_put (d + 1) [.ref 2, .int k, .int i, .long v] (sx_mk c m o D) 0 0 (some (.int 1)) (sx_mk c m o (D.set i0 (.inl (1, (N, .inr (.inl (vp_updL f i.toNatClampNeg v))))))) := by
  refine pj_Cn.start ?_
  refine pj_J.go (oX1_put G) 2 rfl trivial ?_
  refine pj_J.cal0 kX1_put_2 (c_X1_isTape (c := c) k) ⟨_, _, _, rfl, rfl⟩ pj_le0 pj_le0 pj_le0 ?_
  refine pj_J.go (oX1_put G) 1 rfl trivial ?_
  refine pj_J.neg hg ?_
  refine pj_J.go (oX1_put G) 4 rfl ⟨by exact hv, trivial⟩ ?_
  refine pj_J.seq (show va_rf (sx_tr k.toNatClampNeg) :: _ = .ref (53 + k.toNatClampNeg) :: _ by rw [(sx_tr_at hv).1]; rfl) ?_
  refine pj_J.go1 (pc := 16) (oX1_put G) rfl (po_getD (lo := 2) (hi := 2) (k := 0) (n := 19) (by exact sx_tp (sx_tr_at hv).2) (by decide) (by rfl)) trivial ?_
  refine pj_J.seq (show va_rf (sx_T c k.toNatClampNeg) :: _ = .ref (i0 + 98) :: _ by rw [ht]; rfl) ?_
  refine pj_J.go (oX1_put G) 1 rfl trivial ?_
  refine pj_J.go (oX1_put G) 1 rfl trivial ?_
  refine pj_J.instNo dX1_put_23 q1279 (Or.inr ⟨_, _, ha, Or.inr (Or.inl ⟨rfl, rfl⟩)⟩) (by decide) ?_
  refine pj_J.go (oX1_put G) 1 rfl trivial ?_
  refine pj_J.pos rfl ?_
  refine pj_J.go (oX1_put G) 1 rfl trivial ?_
  refine pj_J.instNo dX1_put_44 q1255 (Or.inr ⟨_, _, ha, Or.inr (Or.inl ⟨rfl, rfl⟩)⟩) (by decide) ?_
  refine pj_J.go (oX1_put G) 1 rfl trivial ?_
  refine pj_J.pos rfl ?_
  refine pj_J.go (oX1_put G) 1 rfl trivial ?_
  refine pj_J.instNo dX1_put_65 q1256 (Or.inr ⟨_, _, ha, Or.inr (Or.inl ⟨rfl, rfl⟩)⟩) (by decide) ?_
  refine pj_J.go (oX1_put G) 1 rfl trivial ?_
  refine pj_J.pos rfl ?_
  refine pj_J.go (oX1_put G) 1 rfl trivial ?_
  refine pj_J.castY dX1_put_85 q1257 (Or.inr ⟨_, _, ha, Or.inr (Or.inl ⟨rfl, rfl⟩)⟩) ?_
  refine pj_J.go (oX1_put G) 2 rfl trivial ?_
  refine pj_J.go1 (pc := 90) (oX1_put G) rfl (po_lastD (n := 91) ha) hin ?_
  refine pj_J.heq (h' := sx_mk c m o (D.set i0 (.inl (1, (N, .inr (.inl (vp_updL f i.toNatClampNeg v))))))) sx_set ?_
  refine pj_J.go (oX1_put G) 2 rfl trivial ?_
  exact pj_iret dX1_put_122 rfl ⟨rfl, rfl⟩
theorem c_X1_putJO {G : pj_G} {d : Nat} {c : sx_C} {m : sx_M} {o : Nat → Int64} {D : pj_H} (k i : Int32) (v : Int64) (hg : ¬ fc_isTape c.1 k = 0) (hv : vp_in k 6) {i0 N : Nat} {f : Nat → Int64} (ht : sx_T c k.toNatClampNeg = some (i0 + 98)) (ha : (sx_mk c m o D)[i0 + 98]? = some (.inl (1, (N, .inr (.inl f))))) (hN : N < 2 ^ 31) (hin : ¬ vp_in i N) : pj_Rt G mX1_put (d + 1) [.ref 2, .int k, .int i, .long v] (sx_mk c m o D) 3 1010 (some (.int ((fc_snag c.1 (-13)).1))) (sx_mk (sx_sM c ((fc_snag c.1 (-13)).2)) m o (D ++ [.inr (90, []), .inr (90, []), .inr (23, [])])) := by
  refine pj_Cn.start ?_
  refine pj_J.go (oX1_put G) 2 rfl trivial ?_
  refine pj_J.cal0 kX1_put_2 (c_X1_isTape (c := c) k) ⟨_, _, _, rfl, rfl⟩ pj_le0 pj_le0 pj_le0 ?_
  refine pj_J.go (oX1_put G) 1 rfl trivial ?_
  refine pj_J.neg hg ?_
  refine pj_J.go (oX1_put G) 4 rfl ⟨by exact hv, trivial⟩ ?_
  refine pj_J.seq (show va_rf (sx_tr k.toNatClampNeg) :: _ = .ref (53 + k.toNatClampNeg) :: _ by rw [(sx_tr_at hv).1]; rfl) ?_
  refine pj_J.go1 (pc := 16) (oX1_put G) rfl (po_getD (lo := 2) (hi := 2) (k := 0) (n := 19) (by exact sx_tp (sx_tr_at hv).2) (by decide) (by rfl)) trivial ?_
  refine pj_J.seq (show va_rf (sx_T c k.toNatClampNeg) :: _ = .ref (i0 + 98) :: _ by rw [ht]; rfl) ?_
  refine pj_J.go (oX1_put G) 1 rfl trivial ?_
  refine pj_J.go (oX1_put G) 1 rfl trivial ?_
  refine pj_J.instNo dX1_put_23 q1279 (Or.inr ⟨_, _, ha, Or.inr (Or.inl ⟨rfl, rfl⟩)⟩) (by decide) ?_
  refine pj_J.go (oX1_put G) 1 rfl trivial ?_
  refine pj_J.pos rfl ?_
  refine pj_J.go (oX1_put G) 1 rfl trivial ?_
  refine pj_J.instNo dX1_put_44 q1255 (Or.inr ⟨_, _, ha, Or.inr (Or.inl ⟨rfl, rfl⟩)⟩) (by decide) ?_
  refine pj_J.go (oX1_put G) 1 rfl trivial ?_
  refine pj_J.pos rfl ?_
  refine pj_J.go (oX1_put G) 1 rfl trivial ?_
  refine pj_J.instNo dX1_put_65 q1256 (Or.inr ⟨_, _, ha, Or.inr (Or.inl ⟨rfl, rfl⟩)⟩) (by decide) ?_
  refine pj_J.go (oX1_put G) 1 rfl trivial ?_
  refine pj_J.pos rfl ?_
  refine pj_J.go (oX1_put G) 1 rfl trivial ?_
  refine pj_J.castY dX1_put_85 q1257 (Or.inr ⟨_, _, ha, Or.inr (Or.inl ⟨rfl, rfl⟩)⟩) ?_
  refine pj_J.go (oX1_put G) 2 rfl trivial ?_
  refine pj_J.raiseA (kc := 0) (ks := 0) (ro_lastore (ty := .long) ha (by decide) (fun _ => rfl) hN hin dX1_put_90 (Nat.le_of_ble_eq_true rfl)) whX1_put (Or.inl ⟨_, [some ("java/lang/NullPointerException", false), some ("java/lang/ClassCastException", false), some ("java/lang/ArrayIndexOutOfBoundsException", true)], 112, by decide, rfl, ⟨⟨by decide, by decide⟩, by decide, q1162, by decide, ⟨by decide, by decide⟩, by decide, q1187, by decide, ⟨by decide, by decide⟩, by decide, q1233, pj_xC 5 rfl, rfl⟩, ?_⟩)
  refine pj_J.heq (h' := sx_mk c m o (D ++ [.inr (90, []), .inr (90, []), .inr (23, [])])) rfl ?_
  refine pj_J.go (oX1_put G) 3 rfl trivial ?_
  refine pj_J.cal0 kX1_put_117 (c_X1_snag (c := c) (-13)) ⟨_, _, _, rfl, rfl⟩ pj_le0 pj_le0 pj_le0 ?_
  exact pj_iret dX1_put_120 rfl ⟨rfl, rfl⟩
theorem c_X1_put0 {G : pj_G} {d : Nat} {c : sx_C} {m : sx_M} {o : Nat → Int64} {D : pj_H} (k i : Int32) (v : Int64) (hg : ¬ fc_isTape c.1 k = 0) (hv : vp_in k 6) (ht : sx_T c k.toNatClampNeg = none) : pj_Rt G mX1_put (d + 1) [.ref 2, .int k, .int i, .long v] (sx_mk c m o D) 1 8 (some (.int ((fc_snag c.1 (-11)).1))) (sx_mk (sx_sM c ((fc_snag c.1 (-11)).2)) m o (D ++ [.inr (21, [])])) := by
  refine pj_Cn.start ?_
  refine pj_J.go (oX1_put G) 2 rfl trivial ?_
  refine pj_J.cal0 kX1_put_2 (c_X1_isTape (c := c) k) ⟨_, _, _, rfl, rfl⟩ pj_le0 pj_le0 pj_le0 ?_
  refine pj_J.go (oX1_put G) 1 rfl trivial ?_
  refine pj_J.neg hg ?_
  refine pj_J.go (oX1_put G) 4 rfl ⟨by exact hv, trivial⟩ ?_
  refine pj_J.seq (show va_rf (sx_tr k.toNatClampNeg) :: _ = .ref (53 + k.toNatClampNeg) :: _ by rw [(sx_tr_at hv).1]; rfl) ?_
  refine pj_J.go1 (pc := 16) (oX1_put G) rfl (po_getD (lo := 2) (hi := 2) (k := 0) (n := 19) (by exact sx_tp (sx_tr_at hv).2) (by decide) (by rfl)) trivial ?_
  refine pj_J.seq (show va_rf (sx_T c k.toNatClampNeg) :: _ = .null :: _ by rw [ht]; rfl) ?_
  refine pj_J.go (oX1_put G) 1 rfl trivial ?_
  refine pj_J.go (oX1_put G) 1 rfl trivial ?_
  refine pj_J.instN dX1_put_23 ?_
  refine pj_J.go (oX1_put G) 1 rfl trivial ?_
  refine pj_J.pos rfl ?_
  refine pj_J.go (oX1_put G) 1 rfl trivial ?_
  refine pj_J.instN dX1_put_44 ?_
  refine pj_J.go (oX1_put G) 1 rfl trivial ?_
  refine pj_J.pos rfl ?_
  refine pj_J.go (oX1_put G) 1 rfl trivial ?_
  refine pj_J.instN dX1_put_65 ?_
  refine pj_J.go (oX1_put G) 1 rfl trivial ?_
  refine pj_J.pos rfl ?_
  refine pj_J.go (oX1_put G) 1 rfl trivial ?_
  refine pj_J.castN dX1_put_85 ?_
  refine pj_J.go (oX1_put G) 2 rfl trivial ?_
  refine pj_J.raiseN (kc := 0) (ks := 0) (rn_last dX1_put_90 (Nat.le_of_ble_eq_true rfl)) whX1_put (Or.inl ⟨_, [some ("java/lang/NullPointerException", true)], 94, by decide, rfl, ⟨⟨by decide, by decide⟩, by decide, q1162, pj_xC 1 rfl, rfl⟩, ?_⟩)
  refine pj_J.heq (h' := sx_mk c m o (D ++ [.inr (21, [])])) rfl ?_
  refine pj_J.go (oX1_put G) 3 rfl trivial ?_
  refine pj_J.cal0 kX1_put_99 (c_X1_snag (c := c) (-11)) ⟨_, _, _, rfl, rfl⟩ pj_le0 pj_le0 pj_le0 ?_
  exact pj_iret dX1_put_102 rfl ⟨rfl, rfl⟩
theorem c_X1_putM {G : pj_G} {d : Nat} {c : sx_C} {m : sx_M} {o : Nat → Int64} {D : pj_H} (k i : Int32) (v : Int64) (hg : ¬ fc_isTape c.1 k = 0) (hv : vp_in k 6) {a : Nat} (ht : sx_T c k.toNatClampNeg = some a) (hi : px_is (sx_mk c m o D) a "PennyJudge$Image") : pj_Rt G mX1_put (d + 1) [.ref 2, .int k, .int i, .long v] (sx_mk c m o D) 3 1010 (some (.int ((fc_snag c.1 (-12)).1))) (sx_mk (sx_sM c ((fc_snag c.1 (-12)).2)) m o (D ++ [.inr (90, []), .inr (90, []), .inr (22, [])])) := by
  refine pj_Cn.start ?_
  refine pj_J.go (oX1_put G) 2 rfl trivial ?_
  refine pj_J.cal0 kX1_put_2 (c_X1_isTape (c := c) k) ⟨_, _, _, rfl, rfl⟩ pj_le0 pj_le0 pj_le0 ?_
  refine pj_J.go (oX1_put G) 1 rfl trivial ?_
  refine pj_J.neg hg ?_
  refine pj_J.go (oX1_put G) 4 rfl ⟨by exact hv, trivial⟩ ?_
  refine pj_J.seq (show va_rf (sx_tr k.toNatClampNeg) :: _ = .ref (53 + k.toNatClampNeg) :: _ by rw [(sx_tr_at hv).1]; rfl) ?_
  refine pj_J.go1 (pc := 16) (oX1_put G) rfl (po_getD (lo := 2) (hi := 2) (k := 0) (n := 19) (by exact sx_tp (sx_tr_at hv).2) (by decide) (by rfl)) trivial ?_
  refine pj_J.seq (show va_rf (sx_T c k.toNatClampNeg) :: _ = .ref a :: _ by rw [ht]; rfl) ?_
  refine pj_J.go (oX1_put G) 1 rfl trivial ?_
  refine pj_J.go (oX1_put G) 1 rfl trivial ?_
  refine pj_J.instNo dX1_put_23 q1279 hi (by decide) ?_
  refine pj_J.go (oX1_put G) 1 rfl trivial ?_
  refine pj_J.pos rfl ?_
  refine pj_J.go (oX1_put G) 1 rfl trivial ?_
  refine pj_J.instNo dX1_put_44 q1255 hi (by decide) ?_
  refine pj_J.go (oX1_put G) 1 rfl trivial ?_
  refine pj_J.pos rfl ?_
  refine pj_J.go (oX1_put G) 1 rfl trivial ?_
  refine pj_J.instNo dX1_put_65 q1256 hi (by decide) ?_
  refine pj_J.go (oX1_put G) 1 rfl trivial ?_
  refine pj_J.pos rfl ?_
  refine pj_J.go (oX1_put G) 1 rfl trivial ?_
  refine pj_J.raiseC (kc := 0) (ks := 0) (rc_cast dX1_put_85 q1257 hi (by decide) (Nat.le_of_ble_eq_true rfl)) whX1_put (Or.inl ⟨_, [some ("java/lang/NullPointerException", false), some ("java/lang/ClassCastException", true)], 103, by decide, rfl, ⟨⟨by decide, by decide⟩, by decide, q1162, by decide, ⟨by decide, by decide⟩, by decide, q1187, pj_xC 3 rfl, rfl⟩, ?_⟩)
  refine pj_J.heq (h' := sx_mk c m o (D ++ [.inr (90, []), .inr (90, []), .inr (22, [])])) rfl ?_
  refine pj_J.go (oX1_put G) 3 rfl trivial ?_
  refine pj_J.cal0 kX1_put_108 (c_X1_snag (c := c) (-12)) ⟨_, _, _, rfl, rfl⟩ pj_le0 pj_le0 pj_le0 ?_
  exact pj_iret dX1_put_111 rfl ⟨rfl, rfl⟩
