/-! Image.<init>: over a new Image that stands last. Own work. -/
set_option maxRecDepth 100000
def fp_im0 : pj_E := .inr (18, [.null, .null, .null, .int 0, .int 0])
def fp_ar (n : Nat) : pj_E := .inl (1, (n, .inr (.inl (fun _ => 0))))
/-- a new Image behind its constructor: the image and its three arrays -/
def fp_im (E : pj_H) (l p : Int32) (a n d : Nat → Int64) : pj_H := E ++ [.inr (18, [.ref (E.length + 1 + 98), .ref (E.length + 2 + 98), .ref (E.length + 3 + 98), .int l, .int p]), .inl (1, (8, .inr (.inl a))), .inl (1, (4, .inr (.inl n))), .inl (1, (4, .inr (.inl d)))]
theorem fp_at0 (E : pj_H) (x : pj_E) (r : List pj_E) : (E ++ x :: r)[E.length]? = some x := by simp
theorem fp_set0 (E : pj_H) (x y : pj_E) (r : List pj_E) : (E ++ x :: r).set E.length y = E ++ y :: r := by simp
theorem c_X20_init {G : pj_G} {d : Nat} {c : sx_C} {m : sx_M} {o : Nat → Int64} {E : pj_H} : pj_Rt G mX20_init d [.ref (E.length + 98)] (sx_mk c m o (E ++ [fp_im0])) 3 16 none (sx_mk c m o (fp_im E 0 0 (fun _ => 0) (fun _ => 0) (fun _ => 0))) := by
  refine pj_Cn.start ?_
  refine pj_J.go (oX20_init G) 5 rfl ⟨by decide, trivial⟩ ?_
  refine pj_J.eq rfl (st' := [.ref (E.length + 1 + 98), .ref (E.length + 98)]) (by simp [sx_mk]) (h' := sx_mk c m o (E ++ [fp_im0, fp_ar 8])) (by simp [sx_mk, fp_ar, pj_zero]) ?_
  refine pj_J.go1 (pc := 9) (oX20_init G) rfl (po_putD (cnd := none) (lo := 18) (hi := 18) (k := 0) (ty := .array .long) (n := 12) (by exact fp_at0 E fp_im0 _) (by decide) (by exact Nat.le_of_ble_eq_true rfl) (by rfl)) trivial ?_
  refine pj_J.heq (h' := sx_mk c m o (E ++ [.inr (18, [.ref (E.length + 1 + 98), .null, .null, .int 0, .int 0]), fp_ar 8])) (congrArg (sx_mk c m o) (fp_set0 E fp_im0 _ _)) ?_
  refine pj_J.go (oX20_init G) 3 rfl ⟨by decide, trivial⟩ ?_
  refine pj_J.eq rfl (st' := [.ref (E.length + 2 + 98), .ref (E.length + 98)]) (by simp [sx_mk]) (h' := sx_mk c m o (E ++ [.inr (18, [.ref (E.length + 1 + 98), .null, .null, .int 0, .int 0]), fp_ar 8, fp_ar 4])) (by simp [sx_mk, fp_ar, pj_zero]) ?_
  refine pj_J.go1 (pc := 16) (oX20_init G) rfl (po_putD (cnd := none) (lo := 18) (hi := 18) (k := 1) (ty := .array .long) (n := 19) (by exact fp_at0 E _ _) (by decide) (by exact Nat.le_of_ble_eq_true rfl) (by rfl)) trivial ?_
  refine pj_J.heq (h' := sx_mk c m o (E ++ [.inr (18, [.ref (E.length + 1 + 98), .ref (E.length + 2 + 98), .null, .int 0, .int 0]), fp_ar 8, fp_ar 4])) (congrArg (sx_mk c m o) (fp_set0 E _ _ _)) ?_
  refine pj_J.go (oX20_init G) 3 rfl ⟨by decide, trivial⟩ ?_
  refine pj_J.eq rfl (st' := [.ref (E.length + 3 + 98), .ref (E.length + 98)]) (by simp [sx_mk]) (h' := sx_mk c m o (E ++ [.inr (18, [.ref (E.length + 1 + 98), .ref (E.length + 2 + 98), .null, .int 0, .int 0]), fp_ar 8, fp_ar 4, fp_ar 4])) (by simp [sx_mk, fp_ar, pj_zero]) ?_
  refine pj_J.go1 (pc := 23) (oX20_init G) rfl (po_putD (cnd := none) (lo := 18) (hi := 18) (k := 2) (ty := .array .long) (n := 26) (by exact fp_at0 E _ _) (by decide) (by exact Nat.le_of_ble_eq_true rfl) (by rfl)) trivial ?_
  refine pj_J.heq (h' := sx_mk c m o (fp_im E 0 0 (fun _ => 0) (fun _ => 0) (fun _ => 0))) (congrArg (sx_mk c m o) (fp_set0 E _ _ _)) ?_
  exact pj_vret dX20_init_26 rfl ⟨rfl, rfl⟩
