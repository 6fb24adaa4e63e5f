/-! PennyJudge: acts are made (by tools/gen_s1.py) -/
set_option maxRecDepth 100000
theorem sx_set_new (D : pj_H) (x y : pj_E) : (D ++ [x]).set D.length y = D ++ [y] := by simp
theorem c_X6_init {G : pj_G} {d : Nat} {c : sx_C} {m : sx_M} {o : Nat → Int64} {D : pj_H} {i ci : Nat} {a0 a1 a2 a3 : Int32} (hci : 5 ≤ ci ∧ ci ≤ 17) (hi : D[i]? = some (.inr (ci, [.int a0, .int a1, .int a2, .int a3]))) (kd s t v : Int32) : pj_Rt G mX6_init d [.ref (i + 98), .int kd, .int s, .int t, .int v] (sx_mk c m o D) 0 0 none (sx_mk c m o (D.set i (.inr (ci, [.int kd, .int s, .int t, .int v])))) := by
  refine pj_Cn.start ?_
  refine pj_J.go (oX6_init G) 4 rfl trivial ?_
  refine pj_J.go1 (pc := 6) (oX6_init G) rfl (po_putD (cnd := none) (lo := 5) (hi := 17) (k := 0) (ty := .int) (n := 9) (by exact hi) hci (by exact Nat.le_of_ble_eq_true rfl) (by rfl)) trivial ?_
  refine pj_J.go (oX6_init G) 2 rfl trivial ?_
  refine pj_J.go1 (pc := 11) (oX6_init G) rfl (po_putD (cnd := none) (lo := 5) (hi := 17) (k := 1) (ty := .int) (n := 14) (by exact sx_set_at (hi)) hci (by exact Nat.le_of_ble_eq_true rfl) (by rfl)) trivial ?_
  refine pj_J.go (oX6_init G) 2 rfl trivial ?_
  refine pj_J.go1 (pc := 16) (oX6_init G) rfl (po_putD (cnd := none) (lo := 5) (hi := 17) (k := 2) (ty := .int) (n := 19) (by exact sx_set_at (sx_set_at (hi))) hci (by exact Nat.le_of_ble_eq_true rfl) (by rfl)) trivial ?_
  refine pj_J.go (oX6_init G) 2 rfl trivial ?_
  refine pj_J.go1 (pc := 22) (oX6_init G) rfl (po_putD (cnd := none) (lo := 5) (hi := 17) (k := 3) (ty := .int) (n := 25) (by exact sx_set_at (sx_set_at (sx_set_at (hi)))) hci (by exact Nat.le_of_ble_eq_true rfl) (by rfl)) trivial ?_
  refine pj_vret dX6_init_25 rfl ⟨rfl, ?_⟩
  show sx_mk c m o ((((D.set i _).set i _).set i _).set i _) = _
  rw [List.set_set, List.set_set, List.set_set]
  rfl
theorem c_X7_init {G : pj_G} {d : Nat} {c : sx_C} {m : sx_M} {o : Nat → Int64} {D : pj_H} {i ci : Nat} {a0 a1 a2 a3 : Int32} (hci : 5 ≤ ci ∧ ci ≤ 17) (hi : D[i]? = some (.inr (ci, [.int a0, .int a1, .int a2, .int a3]))) (kd s t v : Int32) : pj_Rt G mX7_init (d + 1) [.ref (i + 98), .int kd, .int s, .int t, .int v] (sx_mk c m o D) 0 0 none (sx_mk c m o (D.set i (.inr (ci, [.int kd, .int s, .int t, .int v])))) := by
  refine pj_Cn.start ?_
  refine pj_J.go (oX7_init G) 5 rfl trivial ?_
  refine pj_J.cal0 kX7_init_6 (c_X6_init hci hi kd s t v) ⟨_, _, rfl⟩ pj_le0 pj_le0 pj_le0 ?_
  exact pj_vret dX7_init_9 rfl ⟨rfl, rfl⟩
theorem c_X8_init {G : pj_G} {d : Nat} {c : sx_C} {m : sx_M} {o : Nat → Int64} {D : pj_H} {i ci : Nat} {a0 a1 a2 a3 : Int32} (hci : 5 ≤ ci ∧ ci ≤ 17) (hi : D[i]? = some (.inr (ci, [.int a0, .int a1, .int a2, .int a3]))) (kd s t v : Int32) : pj_Rt G mX8_init (d + 2) [.ref (i + 98), .int kd, .int s, .int t, .int v] (sx_mk c m o D) 0 0 none (sx_mk c m o (D.set i (.inr (ci, [.int kd, .int s, .int t, .int v])))) := by
  refine pj_Cn.start ?_
  refine pj_J.go (oX8_init G) 5 rfl trivial ?_
  refine pj_J.cal0 kX8_init_6 (c_X7_init hci hi kd s t v) ⟨_, _, rfl⟩ pj_le0 pj_le0 pj_le0 ?_
  exact pj_vret dX8_init_9 rfl ⟨rfl, rfl⟩
theorem c_X9_init {G : pj_G} {d : Nat} {c : sx_C} {m : sx_M} {o : Nat → Int64} {D : pj_H} {i ci : Nat} {a0 a1 a2 a3 : Int32} (hci : 5 ≤ ci ∧ ci ≤ 17) (hi : D[i]? = some (.inr (ci, [.int a0, .int a1, .int a2, .int a3]))) (kd s t v : Int32) : pj_Rt G mX9_init (d + 3) [.ref (i + 98), .int kd, .int s, .int t, .int v] (sx_mk c m o D) 0 0 none (sx_mk c m o (D.set i (.inr (ci, [.int kd, .int s, .int t, .int v])))) := by
  refine pj_Cn.start ?_
  refine pj_J.go (oX9_init G) 5 rfl trivial ?_
  refine pj_J.cal0 kX9_init_6 (c_X8_init hci hi kd s t v) ⟨_, _, rfl⟩ pj_le0 pj_le0 pj_le0 ?_
  exact pj_vret dX9_init_9 rfl ⟨rfl, rfl⟩
theorem c_X10_init {G : pj_G} {d : Nat} {c : sx_C} {m : sx_M} {o : Nat → Int64} {D : pj_H} {i ci : Nat} {a0 a1 a2 a3 : Int32} (hci : 5 ≤ ci ∧ ci ≤ 17) (hi : D[i]? = some (.inr (ci, [.int a0, .int a1, .int a2, .int a3]))) (kd s t v : Int32) : pj_Rt G mX10_init (d + 1) [.ref (i + 98), .int kd, .int s, .int t, .int v] (sx_mk c m o D) 0 0 none (sx_mk c m o (D.set i (.inr (ci, [.int kd, .int s, .int t, .int v])))) := by
  refine pj_Cn.start ?_
  refine pj_J.go (oX10_init G) 5 rfl trivial ?_
  refine pj_J.cal0 kX10_init_6 (c_X6_init hci hi kd s t v) ⟨_, _, rfl⟩ pj_le0 pj_le0 pj_le0 ?_
  exact pj_vret dX10_init_9 rfl ⟨rfl, rfl⟩
theorem c_X11_init {G : pj_G} {d : Nat} {c : sx_C} {m : sx_M} {o : Nat → Int64} {D : pj_H} {i ci : Nat} {a0 a1 a2 a3 : Int32} (hci : 5 ≤ ci ∧ ci ≤ 17) (hi : D[i]? = some (.inr (ci, [.int a0, .int a1, .int a2, .int a3]))) (kd s t v : Int32) : pj_Rt G mX11_init (d + 1) [.ref (i + 98), .int kd, .int s, .int t, .int v] (sx_mk c m o D) 0 0 none (sx_mk c m o (D.set i (.inr (ci, [.int kd, .int s, .int t, .int v])))) := by
  refine pj_Cn.start ?_
  refine pj_J.go (oX11_init G) 5 rfl trivial ?_
  refine pj_J.cal0 kX11_init_6 (c_X6_init hci hi kd s t v) ⟨_, _, rfl⟩ pj_le0 pj_le0 pj_le0 ?_
  exact pj_vret dX11_init_9 rfl ⟨rfl, rfl⟩
theorem c_X12_init {G : pj_G} {d : Nat} {c : sx_C} {m : sx_M} {o : Nat → Int64} {D : pj_H} {i ci : Nat} {a0 a1 a2 a3 : Int32} (hci : 5 ≤ ci ∧ ci ≤ 17) (hi : D[i]? = some (.inr (ci, [.int a0, .int a1, .int a2, .int a3]))) (kd s t v : Int32) : pj_Rt G mX12_init (d + 1) [.ref (i + 98), .int kd, .int s, .int t, .int v] (sx_mk c m o D) 0 0 none (sx_mk c m o (D.set i (.inr (ci, [.int kd, .int s, .int t, .int v])))) := by
  refine pj_Cn.start ?_
  refine pj_J.go (oX12_init G) 5 rfl trivial ?_
  refine pj_J.cal0 kX12_init_6 (c_X6_init hci hi kd s t v) ⟨_, _, rfl⟩ pj_le0 pj_le0 pj_le0 ?_
  exact pj_vret dX12_init_9 rfl ⟨rfl, rfl⟩
theorem c_X13_init {G : pj_G} {d : Nat} {c : sx_C} {m : sx_M} {o : Nat → Int64} {D : pj_H} {i ci : Nat} {a0 a1 a2 a3 : Int32} (hci : 5 ≤ ci ∧ ci ≤ 17) (hi : D[i]? = some (.inr (ci, [.int a0, .int a1, .int a2, .int a3]))) (kd s t v : Int32) : pj_Rt G mX13_init (d + 1) [.ref (i + 98), .int kd, .int s, .int t, .int v] (sx_mk c m o D) 0 0 none (sx_mk c m o (D.set i (.inr (ci, [.int kd, .int s, .int t, .int v])))) := by
  refine pj_Cn.start ?_
  refine pj_J.go (oX13_init G) 5 rfl trivial ?_
  refine pj_J.cal0 kX13_init_6 (c_X6_init hci hi kd s t v) ⟨_, _, rfl⟩ pj_le0 pj_le0 pj_le0 ?_
  exact pj_vret dX13_init_9 rfl ⟨rfl, rfl⟩
theorem c_X14_init {G : pj_G} {d : Nat} {c : sx_C} {m : sx_M} {o : Nat → Int64} {D : pj_H} {i ci : Nat} {a0 a1 a2 a3 : Int32} (hci : 5 ≤ ci ∧ ci ≤ 17) (hi : D[i]? = some (.inr (ci, [.int a0, .int a1, .int a2, .int a3]))) (kd s t v : Int32) : pj_Rt G mX14_init (d + 1) [.ref (i + 98), .int kd, .int s, .int t, .int v] (sx_mk c m o D) 0 0 none (sx_mk c m o (D.set i (.inr (ci, [.int kd, .int s, .int t, .int v])))) := by
  refine pj_Cn.start ?_
  refine pj_J.go (oX14_init G) 5 rfl trivial ?_
  refine pj_J.cal0 kX14_init_6 (c_X6_init hci hi kd s t v) ⟨_, _, rfl⟩ pj_le0 pj_le0 pj_le0 ?_
  exact pj_vret dX14_init_9 rfl ⟨rfl, rfl⟩
theorem c_X15_init {G : pj_G} {d : Nat} {c : sx_C} {m : sx_M} {o : Nat → Int64} {D : pj_H} {i ci : Nat} {a0 a1 a2 a3 : Int32} (hci : 5 ≤ ci ∧ ci ≤ 17) (hi : D[i]? = some (.inr (ci, [.int a0, .int a1, .int a2, .int a3]))) (kd s t v : Int32) : pj_Rt G mX15_init (d + 1) [.ref (i + 98), .int kd, .int s, .int t, .int v] (sx_mk c m o D) 0 0 none (sx_mk c m o (D.set i (.inr (ci, [.int kd, .int s, .int t, .int v])))) := by
  refine pj_Cn.start ?_
  refine pj_J.go (oX15_init G) 5 rfl trivial ?_
  refine pj_J.cal0 kX15_init_6 (c_X6_init hci hi kd s t v) ⟨_, _, rfl⟩ pj_le0 pj_le0 pj_le0 ?_
  exact pj_vret dX15_init_9 rfl ⟨rfl, rfl⟩
theorem c_X16_init {G : pj_G} {d : Nat} {c : sx_C} {m : sx_M} {o : Nat → Int64} {D : pj_H} {i ci : Nat} {a0 a1 a2 a3 : Int32} (hci : 5 ≤ ci ∧ ci ≤ 17) (hi : D[i]? = some (.inr (ci, [.int a0, .int a1, .int a2, .int a3]))) (kd s t v : Int32) : pj_Rt G mX16_init (d + 1) [.ref (i + 98), .int kd, .int s, .int t, .int v] (sx_mk c m o D) 0 0 none (sx_mk c m o (D.set i (.inr (ci, [.int kd, .int s, .int t, .int v])))) := by
  refine pj_Cn.start ?_
  refine pj_J.go (oX16_init G) 5 rfl trivial ?_
  refine pj_J.cal0 kX16_init_6 (c_X6_init hci hi kd s t v) ⟨_, _, rfl⟩ pj_le0 pj_le0 pj_le0 ?_
  exact pj_vret dX16_init_9 rfl ⟨rfl, rfl⟩
theorem c_X17_init {G : pj_G} {d : Nat} {c : sx_C} {m : sx_M} {o : Nat → Int64} {D : pj_H} {i ci : Nat} {a0 a1 a2 a3 : Int32} (hci : 5 ≤ ci ∧ ci ≤ 17) (hi : D[i]? = some (.inr (ci, [.int a0, .int a1, .int a2, .int a3]))) (kd s t v : Int32) : pj_Rt G mX17_init (d + 1) [.ref (i + 98), .int kd, .int s, .int t, .int v] (sx_mk c m o D) 0 0 none (sx_mk c m o (D.set i (.inr (ci, [.int kd, .int s, .int t, .int v])))) := by
  refine pj_Cn.start ?_
  refine pj_J.go (oX17_init G) 5 rfl trivial ?_
  refine pj_J.cal0 kX17_init_6 (c_X6_init hci hi kd s t v) ⟨_, _, rfl⟩ pj_le0 pj_le0 pj_le0 ?_
  exact pj_vret dX17_init_9 rfl ⟨rfl, rfl⟩
theorem c_X18_init {G : pj_G} {d : Nat} {c : sx_C} {m : sx_M} {o : Nat → Int64} {D : pj_H} {i ci : Nat} {a0 a1 a2 a3 : Int32} (hci : 5 ≤ ci ∧ ci ≤ 17) (hi : D[i]? = some (.inr (ci, [.int a0, .int a1, .int a2, .int a3]))) (kd s t v : Int32) : pj_Rt G mX18_init (d + 1) [.ref (i + 98), .int kd, .int s, .int t, .int v] (sx_mk c m o D) 0 0 none (sx_mk c m o (D.set i (.inr (ci, [.int kd, .int s, .int t, .int v])))) := by
  refine pj_Cn.start ?_
  refine pj_J.go (oX18_init G) 5 rfl trivial ?_
  refine pj_J.cal0 kX18_init_6 (c_X6_init hci hi kd s t v) ⟨_, _, rfl⟩ pj_le0 pj_le0 pj_le0 ?_
  exact pj_vret dX18_init_9 rfl ⟨rfl, rfl⟩
theorem c_X19_init {G : pj_G} {d : Nat} {c : sx_C} {m : sx_M} {o : Nat → Int64} {D : pj_H} {i ci : Nat} {a0 a1 a2 a3 : Int32} (hci : 5 ≤ ci ∧ ci ≤ 17) (hi : D[i]? = some (.inr (ci, [.int a0, .int a1, .int a2, .int a3]))) (kd s t v : Int32) : pj_Rt G mX19_init (d + 1) [.ref (i + 98), .int kd, .int s, .int t, .int v] (sx_mk c m o D) 0 0 none (sx_mk c m o (D.set i (.inr (ci, [.int kd, .int s, .int t, .int v])))) := by
  refine pj_Cn.start ?_
  refine pj_J.go (oX19_init G) 5 rfl trivial ?_
  refine pj_J.cal0 kX19_init_6 (c_X6_init hci hi kd s t v) ⟨_, _, rfl⟩ pj_le0 pj_le0 pj_le0 ?_
  exact pj_vret dX19_init_9 rfl ⟨rfl, rfl⟩
theorem c_X1_made_0 {G : pj_G} {d : Nat} {c : sx_C} {m : sx_M} {o : Nat → Int64} {D : pj_H} (s t v : Int32) : pj_Rt G mX1_made (d + 4) [.int 0, .int s, .int t, .int v] (sx_mk c m o D) 1 4 (some (.ref (D.length + 98))) (sx_mk c m o (D ++ [.inr (5, [.int 0, .int s, .int t, .int v])])) := by
  refine pj_Cn.start ?_
  refine pj_J.go (oX1_made G) 2 rfl trivial ?_
  refine pj_J.swc (fun _ => ?_) (fun h => absurd rfl h)
  refine pj_J.go (oX1_made G) 6 rfl trivial ?_
  refine pj_J.eq rfl (st' := [.int v, .int t, .int s, .int 0, .ref (D.length + 98), .ref (D.length + 98)]) rfl (h' := sx_mk c m o (D ++ [.inr (5, [.int 0, .int 0, .int 0, .int 0])])) rfl ?_
  refine pj_J.cal0 kX1_made_72 (c_X7_init (by decide) (sx_app_new D _) 0 s t v) ⟨_, _, rfl⟩ pj_le0 pj_le0 pj_le0 ?_
  refine pj_J.heq (h' := sx_mk c m o (D ++ [.inr (5, [.int 0, .int s, .int t, .int v])])) (by rw [sx_set_new]) ?_
  exact pj_aret dX1_made_75 rfl ⟨rfl, rfl⟩
theorem c_X1_made_1 {G : pj_G} {d : Nat} {c : sx_C} {m : sx_M} {o : Nat → Int64} {D : pj_H} (s t v : Int32) : pj_Rt G mX1_made (d + 4) [.int 1, .int s, .int t, .int v] (sx_mk c m o D) 1 4 (some (.ref (D.length + 98))) (sx_mk c m o (D ++ [.inr (6, [.int 1, .int s, .int t, .int v])])) := by
  refine pj_Cn.start ?_
  refine pj_J.go (oX1_made G) 2 rfl trivial ?_
  refine pj_J.swc (fun h => absurd h (by decide)) (fun _ => ?_)
  refine pj_J.swc (fun _ => ?_) (fun h => absurd rfl h)
  refine pj_J.go (oX1_made G) 6 rfl trivial ?_
  refine pj_J.eq rfl (st' := [.int v, .int t, .int s, .int 1, .ref (D.length + 98), .ref (D.length + 98)]) rfl (h' := sx_mk c m o (D ++ [.inr (6, [.int 0, .int 0, .int 0, .int 0])])) rfl ?_
  refine pj_J.cal0 kX1_made_84 (c_X8_init (by decide) (sx_app_new D _) 1 s t v) ⟨_, _, rfl⟩ pj_le0 pj_le0 pj_le0 ?_
  refine pj_J.heq (h' := sx_mk c m o (D ++ [.inr (6, [.int 1, .int s, .int t, .int v])])) (by rw [sx_set_new]) ?_
  exact pj_aret dX1_made_87 rfl ⟨rfl, rfl⟩
theorem c_X1_made_2 {G : pj_G} {d : Nat} {c : sx_C} {m : sx_M} {o : Nat → Int64} {D : pj_H} (s t v : Int32) : pj_Rt G mX1_made (d + 4) [.int 2, .int s, .int t, .int v] (sx_mk c m o D) 1 4 (some (.ref (D.length + 98))) (sx_mk c m o (D ++ [.inr (7, [.int 2, .int s, .int t, .int v])])) := by
  refine pj_Cn.start ?_
  refine pj_J.go (oX1_made G) 2 rfl trivial ?_
  refine pj_J.swc (fun h => absurd h (by decide)) (fun _ => ?_)
  refine pj_J.swc (fun h => absurd h (by decide)) (fun _ => ?_)
  refine pj_J.swc (fun _ => ?_) (fun h => absurd rfl h)
  refine pj_J.go (oX1_made G) 6 rfl trivial ?_
  refine pj_J.eq rfl (st' := [.int v, .int t, .int s, .int 2, .ref (D.length + 98), .ref (D.length + 98)]) rfl (h' := sx_mk c m o (D ++ [.inr (7, [.int 0, .int 0, .int 0, .int 0])])) rfl ?_
  refine pj_J.cal0 kX1_made_96 (c_X9_init (by decide) (sx_app_new D _) 2 s t v) ⟨_, _, rfl⟩ pj_le0 pj_le0 pj_le0 ?_
  refine pj_J.heq (h' := sx_mk c m o (D ++ [.inr (7, [.int 2, .int s, .int t, .int v])])) (by rw [sx_set_new]) ?_
  exact pj_aret dX1_made_99 rfl ⟨rfl, rfl⟩
theorem c_X1_made_3 {G : pj_G} {d : Nat} {c : sx_C} {m : sx_M} {o : Nat → Int64} {D : pj_H} (s t v : Int32) : pj_Rt G mX1_made (d + 4) [.int 3, .int s, .int t, .int v] (sx_mk c m o D) 1 4 (some (.ref (D.length + 98))) (sx_mk c m o (D ++ [.inr (8, [.int 3, .int s, .int t, .int v])])) := by
  refine pj_Cn.start ?_
  refine pj_J.go (oX1_made G) 2 rfl trivial ?_
  refine pj_J.swc (fun h => absurd h (by decide)) (fun _ => ?_)
  refine pj_J.swc (fun h => absurd h (by decide)) (fun _ => ?_)
  refine pj_J.swc (fun h => absurd h (by decide)) (fun _ => ?_)
  refine pj_J.swc (fun _ => ?_) (fun h => absurd rfl h)
  refine pj_J.go (oX1_made G) 6 rfl trivial ?_
  refine pj_J.eq rfl (st' := [.int v, .int t, .int s, .int 3, .ref (D.length + 98), .ref (D.length + 98)]) rfl (h' := sx_mk c m o (D ++ [.inr (8, [.int 0, .int 0, .int 0, .int 0])])) rfl ?_
  refine pj_J.cal0 kX1_made_108 (c_X10_init (by decide) (sx_app_new D _) 3 s t v) ⟨_, _, rfl⟩ pj_le0 pj_le0 pj_le0 ?_
  refine pj_J.heq (h' := sx_mk c m o (D ++ [.inr (8, [.int 3, .int s, .int t, .int v])])) (by rw [sx_set_new]) ?_
  exact pj_aret dX1_made_111 rfl ⟨rfl, rfl⟩
theorem c_X1_made_4 {G : pj_G} {d : Nat} {c : sx_C} {m : sx_M} {o : Nat → Int64} {D : pj_H} (s t v : Int32) : pj_Rt G mX1_made (d + 4) [.int 4, .int s, .int t, .int v] (sx_mk c m o D) 1 4 (some (.ref (D.length + 98))) (sx_mk c m o (D ++ [.inr (9, [.int 4, .int s, .int t, .int v])])) := by
  refine pj_Cn.start ?_
  refine pj_J.go (oX1_made G) 2 rfl trivial ?_
  refine pj_J.swc (fun h => absurd h (by decide)) (fun _ => ?_)
  refine pj_J.swc (fun h => absurd h (by decide)) (fun _ => ?_)
  refine pj_J.swc (fun h => absurd h (by decide)) (fun _ => ?_)
  refine pj_J.swc (fun h => absurd h (by decide)) (fun _ => ?_)
  refine pj_J.swc (fun _ => ?_) (fun h => absurd rfl h)
  refine pj_J.go (oX1_made G) 6 rfl trivial ?_
  refine pj_J.eq rfl (st' := [.int v, .int t, .int s, .int 4, .ref (D.length + 98), .ref (D.length + 98)]) rfl (h' := sx_mk c m o (D ++ [.inr (9, [.int 0, .int 0, .int 0, .int 0])])) rfl ?_
  refine pj_J.cal0 kX1_made_120 (c_X11_init (by decide) (sx_app_new D _) 4 s t v) ⟨_, _, rfl⟩ pj_le0 pj_le0 pj_le0 ?_
  refine pj_J.heq (h' := sx_mk c m o (D ++ [.inr (9, [.int 4, .int s, .int t, .int v])])) (by rw [sx_set_new]) ?_
  exact pj_aret dX1_made_123 rfl ⟨rfl, rfl⟩
theorem c_X1_made_5 {G : pj_G} {d : Nat} {c : sx_C} {m : sx_M} {o : Nat → Int64} {D : pj_H} (s t v : Int32) : pj_Rt G mX1_made (d + 4) [.int 5, .int s, .int t, .int v] (sx_mk c m o D) 1 4 (some (.ref (D.length + 98))) (sx_mk c m o (D ++ [.inr (10, [.int 5, .int s, .int t, .int v])])) := by
  refine pj_Cn.start ?_
  refine pj_J.go (oX1_made G) 2 rfl trivial ?_
  refine pj_J.swc (fun h => absurd h (by decide)) (fun _ => ?_)
  refine pj_J.swc (fun h => absurd h (by decide)) (fun _ => ?_)
  refine pj_J.swc (fun h => absurd h (by decide)) (fun _ => ?_)
  refine pj_J.swc (fun h => absurd h (by decide)) (fun _ => ?_)
  refine pj_J.swc (fun h => absurd h (by decide)) (fun _ => ?_)
  refine pj_J.swc (fun _ => ?_) (fun h => absurd rfl h)
  refine pj_J.go (oX1_made G) 6 rfl trivial ?_
  refine pj_J.eq rfl (st' := [.int v, .int t, .int s, .int 5, .ref (D.length + 98), .ref (D.length + 98)]) rfl (h' := sx_mk c m o (D ++ [.inr (10, [.int 0, .int 0, .int 0, .int 0])])) rfl ?_
  refine pj_J.cal0 kX1_made_132 (c_X12_init (by decide) (sx_app_new D _) 5 s t v) ⟨_, _, rfl⟩ pj_le0 pj_le0 pj_le0 ?_
  refine pj_J.heq (h' := sx_mk c m o (D ++ [.inr (10, [.int 5, .int s, .int t, .int v])])) (by rw [sx_set_new]) ?_
  exact pj_aret dX1_made_135 rfl ⟨rfl, rfl⟩
theorem c_X1_made_6 {G : pj_G} {d : Nat} {c : sx_C} {m : sx_M} {o : Nat → Int64} {D : pj_H} (s t v : Int32) : pj_Rt G mX1_made (d + 4) [.int 6, .int s, .int t, .int v] (sx_mk c m o D) 1 4 (some (.ref (D.length + 98))) (sx_mk c m o (D ++ [.inr (11, [.int 6, .int s, .int t, .int v])])) := by
  refine pj_Cn.start ?_
  refine pj_J.go (oX1_made G) 2 rfl trivial ?_
  refine pj_J.swc (fun h => absurd h (by decide)) (fun _ => ?_)
  refine pj_J.swc (fun h => absurd h (by decide)) (fun _ => ?_)
  refine pj_J.swc (fun h => absurd h (by decide)) (fun _ => ?_)
  refine pj_J.swc (fun h => absurd h (by decide)) (fun _ => ?_)
  refine pj_J.swc (fun h => absurd h (by decide)) (fun _ => ?_)
  refine pj_J.swc (fun h => absurd h (by decide)) (fun _ => ?_)
  refine pj_J.swc (fun _ => ?_) (fun h => absurd rfl h)
  refine pj_J.go (oX1_made G) 6 rfl trivial ?_
  refine pj_J.eq rfl (st' := [.int v, .int t, .int s, .int 6, .ref (D.length + 98), .ref (D.length + 98)]) rfl (h' := sx_mk c m o (D ++ [.inr (11, [.int 0, .int 0, .int 0, .int 0])])) rfl ?_
  refine pj_J.cal0 kX1_made_144 (c_X13_init (by decide) (sx_app_new D _) 6 s t v) ⟨_, _, rfl⟩ pj_le0 pj_le0 pj_le0 ?_
  refine pj_J.heq (h' := sx_mk c m o (D ++ [.inr (11, [.int 6, .int s, .int t, .int v])])) (by rw [sx_set_new]) ?_
  exact pj_aret dX1_made_147 rfl ⟨rfl, rfl⟩
theorem c_X1_made_7 {G : pj_G} {d : Nat} {c : sx_C} {m : sx_M} {o : Nat → Int64} {D : pj_H} (s t v : Int32) : pj_Rt G mX1_made (d + 4) [.int 7, .int s, .int t, .int v] (sx_mk c m o D) 1 4 (some (.ref (D.length + 98))) (sx_mk c m o (D ++ [.inr (12, [.int 7, .int s, .int t, .int v])])) := by
  refine pj_Cn.start ?_
  refine pj_J.go (oX1_made G) 2 rfl trivial ?_
  refine pj_J.swc (fun h => absurd h (by decide)) (fun _ => ?_)
  refine pj_J.swc (fun h => absurd h (by decide)) (fun _ => ?_)
  refine pj_J.swc (fun h => absurd h (by decide)) (fun _ => ?_)
  refine pj_J.swc (fun h => absurd h (by decide)) (fun _ => ?_)
  refine pj_J.swc (fun h => absurd h (by decide)) (fun _ => ?_)
  refine pj_J.swc (fun h => absurd h (by decide)) (fun _ => ?_)
  refine pj_J.swc (fun h => absurd h (by decide)) (fun _ => ?_)
  refine pj_J.swc (fun _ => ?_) (fun h => absurd rfl h)
  refine pj_J.go (oX1_made G) 6 rfl trivial ?_
  refine pj_J.eq rfl (st' := [.int v, .int t, .int s, .int 7, .ref (D.length + 98), .ref (D.length + 98)]) rfl (h' := sx_mk c m o (D ++ [.inr (12, [.int 0, .int 0, .int 0, .int 0])])) rfl ?_
  refine pj_J.cal0 kX1_made_156 (c_X14_init (by decide) (sx_app_new D _) 7 s t v) ⟨_, _, rfl⟩ pj_le0 pj_le0 pj_le0 ?_
  refine pj_J.heq (h' := sx_mk c m o (D ++ [.inr (12, [.int 7, .int s, .int t, .int v])])) (by rw [sx_set_new]) ?_
  exact pj_aret dX1_made_159 rfl ⟨rfl, rfl⟩
theorem c_X1_made_8 {G : pj_G} {d : Nat} {c : sx_C} {m : sx_M} {o : Nat → Int64} {D : pj_H} (s t v : Int32) : pj_Rt G mX1_made (d + 4) [.int 8, .int s, .int t, .int v] (sx_mk c m o D) 1 4 (some (.ref (D.length + 98))) (sx_mk c m o (D ++ [.inr (13, [.int 8, .int s, .int t, .int v])])) := by
  refine pj_Cn.start ?_
  refine pj_J.go (oX1_made G) 2 rfl trivial ?_
  refine pj_J.swc (fun h => absurd h (by decide)) (fun _ => ?_)
  refine pj_J.swc (fun h => absurd h (by decide)) (fun _ => ?_)
  refine pj_J.swc (fun h => absurd h (by decide)) (fun _ => ?_)
  refine pj_J.swc (fun h => absurd h (by decide)) (fun _ => ?_)
  refine pj_J.swc (fun h => absurd h (by decide)) (fun _ => ?_)
  refine pj_J.swc (fun h => absurd h (by decide)) (fun _ => ?_)
  refine pj_J.swc (fun h => absurd h (by decide)) (fun _ => ?_)
  refine pj_J.swc (fun h => absurd h (by decide)) (fun _ => ?_)
  refine pj_J.swc (fun _ => ?_) (fun h => absurd rfl h)
  refine pj_J.go (oX1_made G) 6 rfl trivial ?_
  refine pj_J.eq rfl (st' := [.int v, .int t, .int s, .int 8, .ref (D.length + 98), .ref (D.length + 98)]) rfl (h' := sx_mk c m o (D ++ [.inr (13, [.int 0, .int 0, .int 0, .int 0])])) rfl ?_
  refine pj_J.cal0 kX1_made_168 (c_X15_init (by decide) (sx_app_new D _) 8 s t v) ⟨_, _, rfl⟩ pj_le0 pj_le0 pj_le0 ?_
  refine pj_J.heq (h' := sx_mk c m o (D ++ [.inr (13, [.int 8, .int s, .int t, .int v])])) (by rw [sx_set_new]) ?_
  exact pj_aret dX1_made_171 rfl ⟨rfl, rfl⟩
theorem c_X1_made_9 {G : pj_G} {d : Nat} {c : sx_C} {m : sx_M} {o : Nat → Int64} {D : pj_H} (s t v : Int32) : pj_Rt G mX1_made (d + 4) [.int 9, .int s, .int t, .int v] (sx_mk c m o D) 1 4 (some (.ref (D.length + 98))) (sx_mk c m o (D ++ [.inr (14, [.int 9, .int s, .int t, .int v])])) := by
  refine pj_Cn.start ?_
  refine pj_J.go (oX1_made G) 2 rfl trivial ?_
  refine pj_J.swc (fun h => absurd h (by decide)) (fun _ => ?_)
  refine pj_J.swc (fun h => absurd h (by decide)) (fun _ => ?_)
  refine pj_J.swc (fun h => absurd h (by decide)) (fun _ => ?_)
  refine pj_J.swc (fun h => absurd h (by decide)) (fun _ => ?_)
  refine pj_J.swc (fun h => absurd h (by decide)) (fun _ => ?_)
  refine pj_J.swc (fun h => absurd h (by decide)) (fun _ => ?_)
  refine pj_J.swc (fun h => absurd h (by decide)) (fun _ => ?_)
  refine pj_J.swc (fun h => absurd h (by decide)) (fun _ => ?_)
  refine pj_J.swc (fun h => absurd h (by decide)) (fun _ => ?_)
  refine pj_J.swc (fun _ => ?_) (fun h => absurd rfl h)
  refine pj_J.go (oX1_made G) 6 rfl trivial ?_
  refine pj_J.eq rfl (st' := [.int v, .int t, .int s, .int 9, .ref (D.length + 98), .ref (D.length + 98)]) rfl (h' := sx_mk c m o (D ++ [.inr (14, [.int 0, .int 0, .int 0, .int 0])])) rfl ?_
  refine pj_J.cal0 kX1_made_180 (c_X16_init (by decide) (sx_app_new D _) 9 s t v) ⟨_, _, rfl⟩ pj_le0 pj_le0 pj_le0 ?_
  refine pj_J.heq (h' := sx_mk c m o (D ++ [.inr (14, [.int 9, .int s, .int t, .int v])])) (by rw [sx_set_new]) ?_
  exact pj_aret dX1_made_183 rfl ⟨rfl, rfl⟩
theorem c_X1_made_10 {G : pj_G} {d : Nat} {c : sx_C} {m : sx_M} {o : Nat → Int64} {D : pj_H} (s t v : Int32) : pj_Rt G mX1_made (d + 4) [.int 10, .int s, .int t, .int v] (sx_mk c m o D) 1 4 (some (.ref (D.length + 98))) (sx_mk c m o (D ++ [.inr (15, [.int 10, .int s, .int t, .int v])])) := by
  refine pj_Cn.start ?_
  refine pj_J.go (oX1_made G) 2 rfl trivial ?_
  refine pj_J.swc (fun h => absurd h (by decide)) (fun _ => ?_)
  refine pj_J.swc (fun h => absurd h (by decide)) (fun _ => ?_)
  refine pj_J.swc (fun h => absurd h (by decide)) (fun _ => ?_)
  refine pj_J.swc (fun h => absurd h (by decide)) (fun _ => ?_)
  refine pj_J.swc (fun h => absurd h (by decide)) (fun _ => ?_)
  refine pj_J.swc (fun h => absurd h (by decide)) (fun _ => ?_)
  refine pj_J.swc (fun h => absurd h (by decide)) (fun _ => ?_)
  refine pj_J.swc (fun h => absurd h (by decide)) (fun _ => ?_)
  refine pj_J.swc (fun h => absurd h (by decide)) (fun _ => ?_)
  refine pj_J.swc (fun h => absurd h (by decide)) (fun _ => ?_)
  refine pj_J.swc (fun _ => ?_) (fun h => absurd rfl h)
  refine pj_J.go (oX1_made G) 6 rfl trivial ?_
  refine pj_J.eq rfl (st' := [.int v, .int t, .int s, .int 10, .ref (D.length + 98), .ref (D.length + 98)]) rfl (h' := sx_mk c m o (D ++ [.inr (15, [.int 0, .int 0, .int 0, .int 0])])) rfl ?_
  refine pj_J.cal0 kX1_made_192 (c_X17_init (by decide) (sx_app_new D _) 10 s t v) ⟨_, _, rfl⟩ pj_le0 pj_le0 pj_le0 ?_
  refine pj_J.heq (h' := sx_mk c m o (D ++ [.inr (15, [.int 10, .int s, .int t, .int v])])) (by rw [sx_set_new]) ?_
  exact pj_aret dX1_made_195 rfl ⟨rfl, rfl⟩
theorem c_X1_made_11 {G : pj_G} {d : Nat} {c : sx_C} {m : sx_M} {o : Nat → Int64} {D : pj_H} (s t v : Int32) : pj_Rt G mX1_made (d + 4) [.int 11, .int s, .int t, .int v] (sx_mk c m o D) 1 4 (some (.ref (D.length + 98))) (sx_mk c m o (D ++ [.inr (16, [.int 11, .int s, .int t, .int v])])) := by
  refine pj_Cn.start ?_
  refine pj_J.go (oX1_made G) 2 rfl trivial ?_
  refine pj_J.swc (fun h => absurd h (by decide)) (fun _ => ?_)
  refine pj_J.swc (fun h => absurd h (by decide)) (fun _ => ?_)
  refine pj_J.swc (fun h => absurd h (by decide)) (fun _ => ?_)
  refine pj_J.swc (fun h => absurd h (by decide)) (fun _ => ?_)
  refine pj_J.swc (fun h => absurd h (by decide)) (fun _ => ?_)
  refine pj_J.swc (fun h => absurd h (by decide)) (fun _ => ?_)
  refine pj_J.swc (fun h => absurd h (by decide)) (fun _ => ?_)
  refine pj_J.swc (fun h => absurd h (by decide)) (fun _ => ?_)
  refine pj_J.swc (fun h => absurd h (by decide)) (fun _ => ?_)
  refine pj_J.swc (fun h => absurd h (by decide)) (fun _ => ?_)
  refine pj_J.swc (fun h => absurd h (by decide)) (fun _ => ?_)
  refine pj_J.swc (fun _ => ?_) (fun h => absurd rfl h)
  refine pj_J.go (oX1_made G) 6 rfl trivial ?_
  refine pj_J.eq rfl (st' := [.int v, .int t, .int s, .int 11, .ref (D.length + 98), .ref (D.length + 98)]) rfl (h' := sx_mk c m o (D ++ [.inr (16, [.int 0, .int 0, .int 0, .int 0])])) rfl ?_
  refine pj_J.cal0 kX1_made_204 (c_X18_init (by decide) (sx_app_new D _) 11 s t v) ⟨_, _, rfl⟩ pj_le0 pj_le0 pj_le0 ?_
  refine pj_J.heq (h' := sx_mk c m o (D ++ [.inr (16, [.int 11, .int s, .int t, .int v])])) (by rw [sx_set_new]) ?_
  exact pj_aret dX1_made_207 rfl ⟨rfl, rfl⟩
theorem c_X1_made_12 {G : pj_G} {d : Nat} {c : sx_C} {m : sx_M} {o : Nat → Int64} {D : pj_H} (s t v : Int32) : pj_Rt G mX1_made (d + 4) [.int 12, .int s, .int t, .int v] (sx_mk c m o D) 1 4 (some (.ref (D.length + 98))) (sx_mk c m o (D ++ [.inr (17, [.int 12, .int s, .int t, .int v])])) := by
  refine pj_Cn.start ?_
  refine pj_J.go (oX1_made G) 2 rfl trivial ?_
  refine pj_J.swc (fun h => absurd h (by decide)) (fun _ => ?_)
  refine pj_J.swc (fun h => absurd h (by decide)) (fun _ => ?_)
  refine pj_J.swc (fun h => absurd h (by decide)) (fun _ => ?_)
  refine pj_J.swc (fun h => absurd h (by decide)) (fun _ => ?_)
  refine pj_J.swc (fun h => absurd h (by decide)) (fun _ => ?_)
  refine pj_J.swc (fun h => absurd h (by decide)) (fun _ => ?_)
  refine pj_J.swc (fun h => absurd h (by decide)) (fun _ => ?_)
  refine pj_J.swc (fun h => absurd h (by decide)) (fun _ => ?_)
  refine pj_J.swc (fun h => absurd h (by decide)) (fun _ => ?_)
  refine pj_J.swc (fun h => absurd h (by decide)) (fun _ => ?_)
  refine pj_J.swc (fun h => absurd h (by decide)) (fun _ => ?_)
  refine pj_J.swc (fun h => absurd h (by decide)) (fun _ => ?_)
  refine pj_J.swn ?_
  refine pj_J.go (oX1_made G) 6 rfl trivial ?_
  refine pj_J.eq rfl (st' := [.int v, .int t, .int s, .int 12, .ref (D.length + 98), .ref (D.length + 98)]) rfl (h' := sx_mk c m o (D ++ [.inr (17, [.int 0, .int 0, .int 0, .int 0])])) rfl ?_
  refine pj_J.cal0 kX1_made_216 (c_X19_init (by decide) (sx_app_new D _) 12 s t v) ⟨_, _, rfl⟩ pj_le0 pj_le0 pj_le0 ?_
  refine pj_J.heq (h' := sx_mk c m o (D ++ [.inr (17, [.int 12, .int s, .int t, .int v])])) (by rw [sx_set_new]) ?_
  exact pj_aret dX1_made_219 rfl ⟨rfl, rfl⟩
theorem c_X1_made {G : pj_G} {d : Nat} {c : sx_C} {m : sx_M} {o : Nat → Int64} {D : pj_H} {a : Nat} (ha : a < 13) (s t v : Int32) : pj_Rt G mX1_made (d + 4) [.int (nI a), .int s, .int t, .int v] (sx_mk c m o D) 1 4 (some (.ref (D.length + 98))) (sx_mk c m o (D ++ [.inr (5 + a, [.int (nI a), .int s, .int t, .int v])])) := by
  have h : a = 0 ∨ a = 1 ∨ a = 2 ∨ a = 3 ∨ a = 4 ∨ a = 5 ∨ a = 6 ∨ a = 7 ∨ a = 8 ∨ a = 9 ∨ a = 10 ∨ a = 11 ∨ a = 12 := by omega
  rcases h with rfl | rfl | rfl | rfl | rfl | rfl | rfl | rfl | rfl | rfl | rfl | rfl | rfl
  · exact c_X1_made_0 s t v
  · exact c_X1_made_1 s t v
  · exact c_X1_made_2 s t v
  · exact c_X1_made_3 s t v
  · exact c_X1_made_4 s t v
  · exact c_X1_made_5 s t v
  · exact c_X1_made_6 s t v
  · exact c_X1_made_7 s t v
  · exact c_X1_made_8 s t v
  · exact c_X1_made_9 s t v
  · exact c_X1_made_10 s t v
  · exact c_X1_made_11 s t v
  · exact c_X1_made_12 s t v
