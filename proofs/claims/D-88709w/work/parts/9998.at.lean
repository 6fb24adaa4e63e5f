/-! element, at (by tools/gen_at.py) -/
set_option maxRecDepth 100000
theorem c_X1_element_B {G : pj_G} {d : Nat} {h : pj_H} {a N : Nat} {f : Nat → Int32} (ha : h[a]? = some (.inl (4, (N, .inl f)))) (i : Int32) (hin : vp_in i N) : pj_Rt G mX1_element d [.ref a, .int i] h 0 0 (some (.long ((f i.toNatClampNeg).toInt64))) h := by
  refine pj_Cn.start ?_
  refine pj_J.go (oX1_element G) 1 rfl trivial ?_
  refine pj_J.instY dX1_element_1 q1279 (Or.inr ⟨_, _, ha, Or.inr (Or.inr (Or.inl ⟨rfl, rfl⟩))⟩) ?_
  refine pj_J.go (oX1_element G) 1 rfl trivial ?_
  refine pj_J.neg (by decide) ?_
  refine pj_J.go (oX1_element G) 1 rfl trivial ?_
  refine pj_J.castY dX1_element_8 q1279 (Or.inr ⟨_, _, ha, Or.inr (Or.inr (Or.inl ⟨rfl, rfl⟩))⟩) ?_
  refine pj_J.go (oX1_element G) 1 rfl trivial ?_
  refine pj_J.go1 (pc := 12) (oX1_element G) rfl (po_baldD (n := 13) ha) hin ?_
  refine pj_J.go (oX1_element G) 2 rfl trivial ?_
  exact pj_lret dX1_element_22 rfl ⟨rfl, rfl⟩
theorem c_X1_element_BO {G : pj_G} {d : Nat} {h : pj_H} {a N : Nat} {f : Nat → Int32} (ha : h[a]? = some (.inl (4, (N, .inl f)))) (i : Int32) (hN : N < 2 ^ 31) (hin : ¬ vp_in i N) : pj_Cn G mX1_element d [.ref a, .int i] h 3 1010 (px_t3 23 h) := by
  refine pj_Cn.start ?_
  refine pj_J.go (oX1_element G) 1 rfl trivial ?_
  refine pj_J.instY dX1_element_1 q1279 (Or.inr ⟨_, _, ha, Or.inr (Or.inr (Or.inl ⟨rfl, rfl⟩))⟩) ?_
  refine pj_J.go (oX1_element G) 1 rfl trivial ?_
  refine pj_J.neg (by decide) ?_
  refine pj_J.go (oX1_element G) 1 rfl trivial ?_
  refine pj_J.castY dX1_element_8 q1279 (Or.inr ⟨_, _, ha, Or.inr (Or.inr (Or.inl ⟨rfl, rfl⟩))⟩) ?_
  refine pj_J.go (oX1_element G) 1 rfl trivial ?_
  exact pj_J.raiseA (kc := 0) (ks := 0) (ro_baload (ty := .byte) ha (by decide) (fun _ => rfl) hN hin dX1_element_12 (Nat.le_of_ble_eq_true rfl)) whX1_element (Or.inr ⟨rfl, rfl, rfl⟩)
theorem c_X1_element_0T {G : pj_G} {d : Nat} {h : pj_H}  (i : Int32) {k1 s1 : Nat} {Q : pj_O → pj_H → Prop} (hq : ∀ v x, ¬ Q (.inl v) x) (hr : pj_Cn G mX1_wide d [.null, .int i] h k1 s1 Q) : pj_Cn G mX1_element (d + 1) [.null, .int i] h k1 s1 Q := by
  refine pj_Cn.start ?_
  refine pj_J.go (oX1_element G) 1 rfl trivial ?_
  refine pj_J.instN dX1_element_1 ?_
  refine pj_J.go (oX1_element G) 1 rfl trivial ?_
  refine pj_J.pos rfl ?_
  refine pj_J.go (oX1_element G) 2 rfl trivial ?_
  refine px_callS2 (my := mX1_wide) (n := 2) (As := [.null, .int i]) (rest := []) (kc := 0) (ks := 0) dX1_element_19 whX1_element whX1_wide (by decide +kernel) (by decide) ⟨by decide +kernel, by decide +kernel⟩ q1258 q1259 q58 rfl (Nat.le_of_ble_eq_true rfl) (Nat.le_of_ble_eq_true rfl) hr ⟨?_, ?_⟩
  · exact fun v1 h1 e1 => absurd e1 (hq _ _)
  · exact fun ci i h1 e1 => Or.inr ⟨rfl, e1⟩
theorem c_X1_element_R {G : pj_G} {d : Nat} {h : pj_H} {a : Nat} {C : String} (hi : px_is h a C) (hC : (C, "[B") ∈ pj_eN) (i : Int32) (v : Int64) (hr : pj_Rt G mX1_wide d [.ref a, .int i] h 0 0 (some (.long v)) h) : pj_Rt G mX1_element (d + 1) [.ref a, .int i] h 0 0 (some (.long v)) h := by
  refine pj_Cn.start ?_
  refine pj_J.go (oX1_element G) 1 rfl trivial ?_
  refine pj_J.instNo dX1_element_1 q1279 hi hC ?_
  refine pj_J.go (oX1_element G) 1 rfl trivial ?_
  refine pj_J.pos rfl ?_
  refine pj_J.go (oX1_element G) 2 rfl trivial ?_
  refine px_callS2 (my := mX1_wide) (n := 2) (As := [.ref a, .int i]) (rest := []) (k1 := 0) (s1 := 0) (kc := 0) (ks := 0) dX1_element_19 whX1_element whX1_wide (by decide +kernel) (by decide) ⟨by decide +kernel, by decide +kernel⟩ q1258 q1259 q58 rfl (Nat.le_of_ble_eq_true rfl) (Nat.le_of_ble_eq_true rfl) hr ⟨?_, ?_⟩
  · rintro v1 h1 ⟨e1, rfl⟩
    cases e1
    exact pj_lret dX1_element_22 rfl ⟨rfl, rfl⟩
  · rintro ci i h1 ⟨e1, -⟩
    cases e1
theorem c_X1_element_RT {G : pj_G} {d : Nat} {h : pj_H} {a : Nat} {C : String} (hi : px_is h a C) (hC : (C, "[B") ∈ pj_eN) (i : Int32) {k1 s1 : Nat} {Q : pj_O → pj_H → Prop} (hq : ∀ v x, ¬ Q (.inl v) x) (hr : pj_Cn G mX1_wide d [.ref a, .int i] h k1 s1 Q) : pj_Cn G mX1_element (d + 1) [.ref a, .int i] h k1 s1 Q := by
  refine pj_Cn.start ?_
  refine pj_J.go (oX1_element G) 1 rfl trivial ?_
  refine pj_J.instNo dX1_element_1 q1279 hi hC ?_
  refine pj_J.go (oX1_element G) 1 rfl trivial ?_
  refine pj_J.pos rfl ?_
  refine pj_J.go (oX1_element G) 2 rfl trivial ?_
  refine px_callS2 (my := mX1_wide) (n := 2) (As := [.ref a, .int i]) (rest := []) (kc := 0) (ks := 0) dX1_element_19 whX1_element whX1_wide (by decide +kernel) (by decide) ⟨by decide +kernel, by decide +kernel⟩ q1258 q1259 q58 rfl (Nat.le_of_ble_eq_true rfl) (Nat.le_of_ble_eq_true rfl) hr ⟨?_, ?_⟩
  · exact fun v1 h1 e1 => absurd e1 (hq _ _)
  · exact fun ci i h1 e1 => Or.inr ⟨rfl, e1⟩
theorem c_X1_atB {G : pj_G} {d : Nat} {c : sx_C} {m : sx_M} {o : Nat → Int64} {D : pj_H} (k i : Int32) (hg : fc_isTape c.1 k = 0) : pj_Cn G mX1_at (d + 1) [.ref 2, .int k, .int i] (sx_mk c m o D) 1 6 (px_th 19 c m o D) := by
  refine pj_Cn.start ?_
  refine pj_J.go (oX1_at G) 2 rfl trivial ?_
  refine pj_J.cal0 kX1_at_2 (c_X1_isTape (c := c) k) ⟨_, _, _, rfl, rfl⟩ pj_le0 pj_le0 pj_le0 ?_
  refine pj_J.go (oX1_at G) 1 rfl trivial ?_
  refine pj_J.pos hg ?_
  exact px_thrI rfl whX1_at rfl dX1_at_8 dX1_at_11 dX1_at_12 dX1_at_15 ⟨rfl, rfl⟩
theorem c_X1_atG {G : pj_G} {d : Nat} {c : sx_C} {m : sx_M} {o : Nat → Int64} {D : pj_H} (k i : Int32) (hg : ¬ fc_isTape c.1 k = 0) (hv : vp_in k 6) (v : Int64) (hr : pj_Rt G mX1_element (d + 1) [va_rf (sx_T c k.toNatClampNeg), .int i] (sx_mk c m o D) 0 0 (some (.long v)) (sx_mk c m o D)) : pj_Rt G mX1_at (d + 2) [.ref 2, .int k, .int i] (sx_mk c m o D) 0 0 (some (.long v)) (sx_mk c m o D) := by
  refine pj_Cn.start ?_
  refine pj_J.go (oX1_at G) 2 rfl trivial ?_
  refine pj_J.cal0 kX1_at_2 (c_X1_isTape (c := c) k) ⟨_, _, _, rfl, rfl⟩ pj_le0 pj_le0 pj_le0 ?_
  refine pj_J.go (oX1_at G) 1 rfl trivial ?_
  refine pj_J.neg hg ?_
  refine pj_J.go (oX1_at G) 4 rfl ⟨by exact hv, trivial⟩ ?_
  refine pj_J.seq (show va_rf (sx_tr k.toNatClampNeg) :: _ = .ref (53 + k.toNatClampNeg) :: _ by rw [(sx_tr_at hv).1]; rfl) ?_
  refine pj_J.go1 (pc := 22) (oX1_at G) rfl (po_getD (lo := 2) (hi := 2) (k := 0) (n := 25) (by exact sx_tp (sx_tr_at hv).2) (by decide) (by rfl)) trivial ?_
  refine pj_J.go (oX1_at G) 1 rfl trivial ?_
  refine px_callS2 (my := mX1_element) (n := 2) (As := [va_rf (sx_T c k.toNatClampNeg), .int i]) (rest := []) (k1 := 0) (s1 := 0) (kc := 0) (ks := 0) dX1_at_26 whX1_at whX1_element (by decide +kernel) (by decide) ⟨by decide +kernel, by decide +kernel⟩ q1379 q1380 q58 rfl (by cases sx_T c k.toNatClampNeg <;> exact Nat.le_of_ble_eq_true rfl) (Nat.le_of_ble_eq_true rfl) hr ⟨?_, ?_⟩
  · rintro v1 h1 ⟨e1, rfl⟩
    cases e1
    refine pj_J.go (oX1_at G) 3 rfl trivial ?_
    exact pj_lret dX1_at_64 rfl ⟨rfl, rfl⟩
  · rintro ci i h1 ⟨e1, -⟩
    cases e1
theorem c_X1_atT21 {G : pj_G} {d : Nat} {c : sx_C} {m : sx_M} {o : Nat → Int64} {D : pj_H} (k i : Int32) (hg : ¬ fc_isTape c.1 k = 0) (hv : vp_in k 6) (hr : pj_Cn G mX1_element (d + 1) [va_rf (sx_T c k.toNatClampNeg), .int i] (sx_mk c m o D) 1 8 (px_t1 21 (sx_mk c m o D))) : pj_Cn G mX1_at (d + 2) [.ref 2, .int k, .int i] (sx_mk c m o D) 2 14 (px_th 20 c m o (D ++ [.inr (21, [])])) := by
  refine pj_Cn.start ?_
  refine pj_J.go (oX1_at G) 2 rfl trivial ?_
  refine pj_J.cal0 kX1_at_2 (c_X1_isTape (c := c) k) ⟨_, _, _, rfl, rfl⟩ pj_le0 pj_le0 pj_le0 ?_
  refine pj_J.go (oX1_at G) 1 rfl trivial ?_
  refine pj_J.neg hg ?_
  refine pj_J.go (oX1_at G) 4 rfl ⟨by exact hv, trivial⟩ ?_
  refine pj_J.seq (show va_rf (sx_tr k.toNatClampNeg) :: _ = .ref (53 + k.toNatClampNeg) :: _ by rw [(sx_tr_at hv).1]; rfl) ?_
  refine pj_J.go1 (pc := 22) (oX1_at G) rfl (po_getD (lo := 2) (hi := 2) (k := 0) (n := 25) (by exact sx_tp (sx_tr_at hv).2) (by decide) (by rfl)) trivial ?_
  refine pj_J.go (oX1_at G) 1 rfl trivial ?_
  refine px_callS2 (my := mX1_element) (n := 2) (As := [va_rf (sx_T c k.toNatClampNeg), .int i]) (rest := []) (k1 := 1) (s1 := 8) (kc := 1) (ks := 6) dX1_at_26 whX1_at whX1_element (by decide +kernel) (by decide) ⟨by decide +kernel, by decide +kernel⟩ q1379 q1380 q58 rfl (by cases sx_T c k.toNatClampNeg <;> exact Nat.le_of_ble_eq_true rfl) (Nat.le_of_ble_eq_true rfl) hr ⟨?_, ?_⟩
  · rintro v1 h1 ⟨e1, -⟩
    cases e1
  · rintro ci i h1 ⟨e1, rfl⟩
    cases e1
    refine Or.inl ⟨_, [some ("java/lang/NullPointerException", true)], 33, by decide, rfl, ⟨⟨by decide, by decide⟩, by decide, q1162, pj_xC 1 rfl, rfl⟩, ?_⟩
    refine pj_J.heq (h' := sx_mk c m o (D ++ [.inr (21, [])])) rfl ?_
    refine pj_J.go (oX1_at G) 1 rfl trivial ?_
    exact px_thrS (kc := 0) (ks := 0) rfl whX1_at rfl dX1_at_35 dX1_at_38 dX1_at_39 dX1_at_42 ⟨rfl, rfl⟩
theorem c_X1_atT22 {G : pj_G} {d : Nat} {c : sx_C} {m : sx_M} {o : Nat → Int64} {D : pj_H} (k i : Int32) (hg : ¬ fc_isTape c.1 k = 0) (hv : vp_in k 6) (hr : pj_Cn G mX1_element (d + 1) [va_rf (sx_T c k.toNatClampNeg), .int i] (sx_mk c m o D) 3 1010 (px_t3 22 (sx_mk c m o D))) : pj_Cn G mX1_at (d + 2) [.ref 2, .int k, .int i] (sx_mk c m o D) 4 1016 (px_th 20 c m o (D ++ [.inr (90, []), .inr (90, []), .inr (22, [])])) := by
  refine pj_Cn.start ?_
  refine pj_J.go (oX1_at G) 2 rfl trivial ?_
  refine pj_J.cal0 kX1_at_2 (c_X1_isTape (c := c) k) ⟨_, _, _, rfl, rfl⟩ pj_le0 pj_le0 pj_le0 ?_
  refine pj_J.go (oX1_at G) 1 rfl trivial ?_
  refine pj_J.neg hg ?_
  refine pj_J.go (oX1_at G) 4 rfl ⟨by exact hv, trivial⟩ ?_
  refine pj_J.seq (show va_rf (sx_tr k.toNatClampNeg) :: _ = .ref (53 + k.toNatClampNeg) :: _ by rw [(sx_tr_at hv).1]; rfl) ?_
  refine pj_J.go1 (pc := 22) (oX1_at G) rfl (po_getD (lo := 2) (hi := 2) (k := 0) (n := 25) (by exact sx_tp (sx_tr_at hv).2) (by decide) (by rfl)) trivial ?_
  refine pj_J.go (oX1_at G) 1 rfl trivial ?_
  refine px_callS2 (my := mX1_element) (n := 2) (As := [va_rf (sx_T c k.toNatClampNeg), .int i]) (rest := []) (k1 := 3) (s1 := 1010) (kc := 1) (ks := 6) dX1_at_26 whX1_at whX1_element (by decide +kernel) (by decide) ⟨by decide +kernel, by decide +kernel⟩ q1379 q1380 q58 rfl (by cases sx_T c k.toNatClampNeg <;> exact Nat.le_of_ble_eq_true rfl) (Nat.le_of_ble_eq_true rfl) hr ⟨?_, ?_⟩
  · rintro v1 h1 ⟨e1, -⟩
    cases e1
  · rintro ci i h1 ⟨e1, rfl⟩
    cases e1
    refine Or.inl ⟨_, [some ("java/lang/NullPointerException", false), some ("java/lang/ClassCastException", true)], 43, by decide, rfl, ⟨⟨by decide, by decide⟩, by decide, q1162, by decide, ⟨by decide, by decide⟩, by decide, q1187, pj_xC 3 rfl, rfl⟩, ?_⟩
    refine pj_J.heq (h' := sx_mk c m o (D ++ [.inr (90, []), .inr (90, []), .inr (22, [])])) rfl ?_
    refine pj_J.go (oX1_at G) 1 rfl trivial ?_
    exact px_thrS (kc := 0) (ks := 0) rfl whX1_at rfl dX1_at_45 dX1_at_48 dX1_at_49 dX1_at_52 ⟨rfl, rfl⟩
theorem c_X1_atT23 {G : pj_G} {d : Nat} {c : sx_C} {m : sx_M} {o : Nat → Int64} {D : pj_H} (k i : Int32) (hg : ¬ fc_isTape c.1 k = 0) (hv : vp_in k 6) (hr : pj_Cn G mX1_element (d + 1) [va_rf (sx_T c k.toNatClampNeg), .int i] (sx_mk c m o D) 3 1010 (px_t3 23 (sx_mk c m o D))) : pj_Cn G mX1_at (d + 2) [.ref 2, .int k, .int i] (sx_mk c m o D) 4 1016 (px_th 20 c m o (D ++ [.inr (90, []), .inr (90, []), .inr (23, [])])) := by
  refine pj_Cn.start ?_
  refine pj_J.go (oX1_at G) 2 rfl trivial ?_
  refine pj_J.cal0 kX1_at_2 (c_X1_isTape (c := c) k) ⟨_, _, _, rfl, rfl⟩ pj_le0 pj_le0 pj_le0 ?_
  refine pj_J.go (oX1_at G) 1 rfl trivial ?_
  refine pj_J.neg hg ?_
  refine pj_J.go (oX1_at G) 4 rfl ⟨by exact hv, trivial⟩ ?_
  refine pj_J.seq (show va_rf (sx_tr k.toNatClampNeg) :: _ = .ref (53 + k.toNatClampNeg) :: _ by rw [(sx_tr_at hv).1]; rfl) ?_
  refine pj_J.go1 (pc := 22) (oX1_at G) rfl (po_getD (lo := 2) (hi := 2) (k := 0) (n := 25) (by exact sx_tp (sx_tr_at hv).2) (by decide) (by rfl)) trivial ?_
  refine pj_J.go (oX1_at G) 1 rfl trivial ?_
  refine px_callS2 (my := mX1_element) (n := 2) (As := [va_rf (sx_T c k.toNatClampNeg), .int i]) (rest := []) (k1 := 3) (s1 := 1010) (kc := 1) (ks := 6) dX1_at_26 whX1_at whX1_element (by decide +kernel) (by decide) ⟨by decide +kernel, by decide +kernel⟩ q1379 q1380 q58 rfl (by cases sx_T c k.toNatClampNeg <;> exact Nat.le_of_ble_eq_true rfl) (Nat.le_of_ble_eq_true rfl) hr ⟨?_, ?_⟩
  · rintro v1 h1 ⟨e1, -⟩
    cases e1
  · rintro ci i h1 ⟨e1, rfl⟩
    cases e1
    refine Or.inl ⟨_, [some ("java/lang/NullPointerException", false), some ("java/lang/ClassCastException", false), some ("java/lang/ArrayIndexOutOfBoundsException", true)], 53, by decide, rfl, ⟨⟨by decide, by decide⟩, by decide, q1162, by decide, ⟨by decide, by decide⟩, by decide, q1187, by decide, ⟨by decide, by decide⟩, by decide, q1233, pj_xC 5 rfl, rfl⟩, ?_⟩
    refine pj_J.heq (h' := sx_mk c m o (D ++ [.inr (90, []), .inr (90, []), .inr (23, [])])) rfl ?_
    refine pj_J.go (oX1_at G) 1 rfl trivial ?_
    exact px_thrS (kc := 0) (ks := 0) rfl whX1_at rfl dX1_at_55 dX1_at_58 dX1_at_59 dX1_at_62 ⟨rfl, rfl⟩
