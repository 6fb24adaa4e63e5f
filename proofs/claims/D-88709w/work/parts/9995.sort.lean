/-! Tape.sort (by tools/gen_sort.py) -/
set_option maxRecDepth 100000
theorem sx_tp {c : sx_C} {m : sx_M} {o : Nat → Int64} {D : pj_H} {j : Nat} (hj : j < 6) : (sx_mk c m o D)[53 + j]? = some (.inr (2, [va_rf (sx_T c j)])) := by
  match j, hj with
  | 0, _ => rfl
  | 1, _ => rfl
  | 2, _ => rfl
  | 3, _ => rfl
  | 4, _ => rfl
  | 5, _ => rfl
  | j + 6, h => omega
theorem c_X3_sort0 {G : pj_G} {d : Nat} {c : sx_C} {m : sx_M} {o : Nat → Int64} {D : pj_H} {j : Nat} (hj : j < 6) (ht : sx_T c j = none) : pj_Rt G mX3_sort d [.ref (53 + j)] (sx_mk c m o D) 0 0 (some (.int 0)) (sx_mk c m o D) := by
  refine pj_Cn.start ?_
  refine pj_J.go (oX3_sort G) 1 rfl trivial ?_
  refine pj_J.go1 (pc := 1) (oX3_sort G) rfl (po_getD (lo := 2) (hi := 2) (k := 0) (n := 4) (by exact sx_tp hj) (by decide) (by rfl)) trivial ?_
  refine pj_J.seq (show va_rf (sx_T c j) :: _ = .null :: _ by rw [ht]; rfl) ?_
  refine pj_J.go (oX3_sort G) 2 rfl trivial ?_
  exact pj_iret dX3_sort_8 rfl ⟨rfl, rfl⟩
theorem c_X3_sort1 {G : pj_G} {d : Nat} {c : sx_C} {m : sx_M} {o : Nat → Int64} {D : pj_H} {j : Nat} {i : Nat} (hj : j < 6) (ht : sx_T c j = some i) (hi : px_is (sx_mk c m o D) i "[B") : pj_Rt G mX3_sort d [.ref (53 + j)] (sx_mk c m o D) 0 0 (some (.int 1)) (sx_mk c m o D) := by
  refine pj_Cn.start ?_
  refine pj_J.go (oX3_sort G) 1 rfl trivial ?_
  refine pj_J.go1 (pc := 1) (oX3_sort G) rfl (po_getD (lo := 2) (hi := 2) (k := 0) (n := 4) (by exact sx_tp hj) (by decide) (by rfl)) trivial ?_
  refine pj_J.seq (show va_rf (sx_T c j) :: _ = .ref i :: _ by rw [ht]; rfl) ?_
  refine pj_J.go (oX3_sort G) 1 rfl trivial ?_
  refine pj_J.go (oX3_sort G) 1 rfl trivial ?_
  refine pj_J.go1 (pc := 10) (oX3_sort G) rfl (po_getD (lo := 2) (hi := 2) (k := 0) (n := 13) (by exact sx_tp hj) (by decide) (by rfl)) trivial ?_
  refine pj_J.seq (show va_rf (sx_T c j) :: _ = .ref i :: _ by rw [ht]; rfl) ?_
  refine pj_J.instY dX3_sort_13 q1271 hi ?_
  refine pj_J.go (oX3_sort G) 1 rfl trivial ?_
  refine pj_J.neg (by decide) ?_
  refine pj_J.go (oX3_sort G) 1 rfl trivial ?_
  exact pj_iret dX3_sort_20 rfl ⟨rfl, rfl⟩
theorem c_X3_sort2 {G : pj_G} {d : Nat} {c : sx_C} {m : sx_M} {o : Nat → Int64} {D : pj_H} {j : Nat} {i : Nat} (hj : j < 6) (ht : sx_T c j = some i) (hi : px_is (sx_mk c m o D) i "[S") : pj_Rt G mX3_sort d [.ref (53 + j)] (sx_mk c m o D) 0 0 (some (.int 2)) (sx_mk c m o D) := by
  refine pj_Cn.start ?_
  refine pj_J.go (oX3_sort G) 1 rfl trivial ?_
  refine pj_J.go1 (pc := 1) (oX3_sort G) rfl (po_getD (lo := 2) (hi := 2) (k := 0) (n := 4) (by exact sx_tp hj) (by decide) (by rfl)) trivial ?_
  refine pj_J.seq (show va_rf (sx_T c j) :: _ = .ref i :: _ by rw [ht]; rfl) ?_
  refine pj_J.go (oX3_sort G) 1 rfl trivial ?_
  refine pj_J.go (oX3_sort G) 1 rfl trivial ?_
  refine pj_J.go1 (pc := 10) (oX3_sort G) rfl (po_getD (lo := 2) (hi := 2) (k := 0) (n := 13) (by exact sx_tp hj) (by decide) (by rfl)) trivial ?_
  refine pj_J.seq (show va_rf (sx_T c j) :: _ = .ref i :: _ by rw [ht]; rfl) ?_
  refine pj_J.instNo dX3_sort_13 q1271 hi (by decide) ?_
  refine pj_J.go (oX3_sort G) 1 rfl trivial ?_
  refine pj_J.pos rfl ?_
  refine pj_J.go (oX3_sort G) 1 rfl trivial ?_
  refine pj_J.go1 (pc := 22) (oX3_sort G) rfl (po_getD (lo := 2) (hi := 2) (k := 0) (n := 25) (by exact sx_tp hj) (by decide) (by rfl)) trivial ?_
  refine pj_J.seq (show va_rf (sx_T c j) :: _ = .ref i :: _ by rw [ht]; rfl) ?_
  refine pj_J.instY dX3_sort_25 q1272 hi ?_
  refine pj_J.go (oX3_sort G) 1 rfl trivial ?_
  refine pj_J.neg (by decide) ?_
  refine pj_J.go (oX3_sort G) 1 rfl trivial ?_
  exact pj_iret dX3_sort_32 rfl ⟨rfl, rfl⟩
theorem c_X3_sort3 {G : pj_G} {d : Nat} {c : sx_C} {m : sx_M} {o : Nat → Int64} {D : pj_H} {j : Nat} {i : Nat} (hj : j < 6) (ht : sx_T c j = some i) (hi : px_is (sx_mk c m o D) i "[I") : pj_Rt G mX3_sort d [.ref (53 + j)] (sx_mk c m o D) 0 0 (some (.int 3)) (sx_mk c m o D) := by
  refine pj_Cn.start ?_
  refine pj_J.go (oX3_sort G) 1 rfl trivial ?_
  refine pj_J.go1 (pc := 1) (oX3_sort G) rfl (po_getD (lo := 2) (hi := 2) (k := 0) (n := 4) (by exact sx_tp hj) (by decide) (by rfl)) trivial ?_
  refine pj_J.seq (show va_rf (sx_T c j) :: _ = .ref i :: _ by rw [ht]; rfl) ?_
  refine pj_J.go (oX3_sort G) 1 rfl trivial ?_
  refine pj_J.go (oX3_sort G) 1 rfl trivial ?_
  refine pj_J.go1 (pc := 10) (oX3_sort G) rfl (po_getD (lo := 2) (hi := 2) (k := 0) (n := 13) (by exact sx_tp hj) (by decide) (by rfl)) trivial ?_
  refine pj_J.seq (show va_rf (sx_T c j) :: _ = .ref i :: _ by rw [ht]; rfl) ?_
  refine pj_J.instNo dX3_sort_13 q1271 hi (by decide) ?_
  refine pj_J.go (oX3_sort G) 1 rfl trivial ?_
  refine pj_J.pos rfl ?_
  refine pj_J.go (oX3_sort G) 1 rfl trivial ?_
  refine pj_J.go1 (pc := 22) (oX3_sort G) rfl (po_getD (lo := 2) (hi := 2) (k := 0) (n := 25) (by exact sx_tp hj) (by decide) (by rfl)) trivial ?_
  refine pj_J.seq (show va_rf (sx_T c j) :: _ = .ref i :: _ by rw [ht]; rfl) ?_
  refine pj_J.instNo dX3_sort_25 q1272 hi (by decide) ?_
  refine pj_J.go (oX3_sort G) 1 rfl trivial ?_
  refine pj_J.pos rfl ?_
  refine pj_J.go (oX3_sort G) 1 rfl trivial ?_
  refine pj_J.go1 (pc := 34) (oX3_sort G) rfl (po_getD (lo := 2) (hi := 2) (k := 0) (n := 37) (by exact sx_tp hj) (by decide) (by rfl)) trivial ?_
  refine pj_J.seq (show va_rf (sx_T c j) :: _ = .ref i :: _ by rw [ht]; rfl) ?_
  refine pj_J.instY dX3_sort_37 q1273 hi ?_
  refine pj_J.go (oX3_sort G) 1 rfl trivial ?_
  refine pj_J.neg (by decide) ?_
  refine pj_J.go (oX3_sort G) 1 rfl trivial ?_
  exact pj_iret dX3_sort_44 rfl ⟨rfl, rfl⟩
theorem c_X3_sort4 {G : pj_G} {d : Nat} {c : sx_C} {m : sx_M} {o : Nat → Int64} {D : pj_H} {j : Nat} {i : Nat} (hj : j < 6) (ht : sx_T c j = some i) (hi : px_is (sx_mk c m o D) i "[J") : pj_Rt G mX3_sort d [.ref (53 + j)] (sx_mk c m o D) 0 0 (some (.int 4)) (sx_mk c m o D) := by
  refine pj_Cn.start ?_
  refine pj_J.go (oX3_sort G) 1 rfl trivial ?_
  refine pj_J.go1 (pc := 1) (oX3_sort G) rfl (po_getD (lo := 2) (hi := 2) (k := 0) (n := 4) (by exact sx_tp hj) (by decide) (by rfl)) trivial ?_
  refine pj_J.seq (show va_rf (sx_T c j) :: _ = .ref i :: _ by rw [ht]; rfl) ?_
  refine pj_J.go (oX3_sort G) 1 rfl trivial ?_
  refine pj_J.go (oX3_sort G) 1 rfl trivial ?_
  refine pj_J.go1 (pc := 10) (oX3_sort G) rfl (po_getD (lo := 2) (hi := 2) (k := 0) (n := 13) (by exact sx_tp hj) (by decide) (by rfl)) trivial ?_
  refine pj_J.seq (show va_rf (sx_T c j) :: _ = .ref i :: _ by rw [ht]; rfl) ?_
  refine pj_J.instNo dX3_sort_13 q1271 hi (by decide) ?_
  refine pj_J.go (oX3_sort G) 1 rfl trivial ?_
  refine pj_J.pos rfl ?_
  refine pj_J.go (oX3_sort G) 1 rfl trivial ?_
  refine pj_J.go1 (pc := 22) (oX3_sort G) rfl (po_getD (lo := 2) (hi := 2) (k := 0) (n := 25) (by exact sx_tp hj) (by decide) (by rfl)) trivial ?_
  refine pj_J.seq (show va_rf (sx_T c j) :: _ = .ref i :: _ by rw [ht]; rfl) ?_
  refine pj_J.instNo dX3_sort_25 q1272 hi (by decide) ?_
  refine pj_J.go (oX3_sort G) 1 rfl trivial ?_
  refine pj_J.pos rfl ?_
  refine pj_J.go (oX3_sort G) 1 rfl trivial ?_
  refine pj_J.go1 (pc := 34) (oX3_sort G) rfl (po_getD (lo := 2) (hi := 2) (k := 0) (n := 37) (by exact sx_tp hj) (by decide) (by rfl)) trivial ?_
  refine pj_J.seq (show va_rf (sx_T c j) :: _ = .ref i :: _ by rw [ht]; rfl) ?_
  refine pj_J.instNo dX3_sort_37 q1273 hi (by decide) ?_
  refine pj_J.go (oX3_sort G) 1 rfl trivial ?_
  refine pj_J.pos rfl ?_
  refine pj_J.go (oX3_sort G) 1 rfl trivial ?_
  refine pj_J.go1 (pc := 46) (oX3_sort G) rfl (po_getD (lo := 2) (hi := 2) (k := 0) (n := 49) (by exact sx_tp hj) (by decide) (by rfl)) trivial ?_
  refine pj_J.seq (show va_rf (sx_T c j) :: _ = .ref i :: _ by rw [ht]; rfl) ?_
  refine pj_J.instY dX3_sort_49 q1274 hi ?_
  refine pj_J.go (oX3_sort G) 1 rfl trivial ?_
  refine pj_J.neg (by decide) ?_
  refine pj_J.go (oX3_sort G) 1 rfl trivial ?_
  exact pj_iret dX3_sort_56 rfl ⟨rfl, rfl⟩
theorem c_X3_sort5 {G : pj_G} {d : Nat} {c : sx_C} {m : sx_M} {o : Nat → Int64} {D : pj_H} {j : Nat} {i : Nat} (hj : j < 6) (ht : sx_T c j = some i) (hi : px_is (sx_mk c m o D) i "PennyJudge$Image") : pj_Rt G mX3_sort d [.ref (53 + j)] (sx_mk c m o D) 0 0 (some (.int 5)) (sx_mk c m o D) := by
  refine pj_Cn.start ?_
  refine pj_J.go (oX3_sort G) 1 rfl trivial ?_
  refine pj_J.go1 (pc := 1) (oX3_sort G) rfl (po_getD (lo := 2) (hi := 2) (k := 0) (n := 4) (by exact sx_tp hj) (by decide) (by rfl)) trivial ?_
  refine pj_J.seq (show va_rf (sx_T c j) :: _ = .ref i :: _ by rw [ht]; rfl) ?_
  refine pj_J.go (oX3_sort G) 1 rfl trivial ?_
  refine pj_J.go (oX3_sort G) 1 rfl trivial ?_
  refine pj_J.go1 (pc := 10) (oX3_sort G) rfl (po_getD (lo := 2) (hi := 2) (k := 0) (n := 13) (by exact sx_tp hj) (by decide) (by rfl)) trivial ?_
  refine pj_J.seq (show va_rf (sx_T c j) :: _ = .ref i :: _ by rw [ht]; rfl) ?_
  refine pj_J.instNo dX3_sort_13 q1271 hi (by decide) ?_
  refine pj_J.go (oX3_sort G) 1 rfl trivial ?_
  refine pj_J.pos rfl ?_
  refine pj_J.go (oX3_sort G) 1 rfl trivial ?_
  refine pj_J.go1 (pc := 22) (oX3_sort G) rfl (po_getD (lo := 2) (hi := 2) (k := 0) (n := 25) (by exact sx_tp hj) (by decide) (by rfl)) trivial ?_
  refine pj_J.seq (show va_rf (sx_T c j) :: _ = .ref i :: _ by rw [ht]; rfl) ?_
  refine pj_J.instNo dX3_sort_25 q1272 hi (by decide) ?_
  refine pj_J.go (oX3_sort G) 1 rfl trivial ?_
  refine pj_J.pos rfl ?_
  refine pj_J.go (oX3_sort G) 1 rfl trivial ?_
  refine pj_J.go1 (pc := 34) (oX3_sort G) rfl (po_getD (lo := 2) (hi := 2) (k := 0) (n := 37) (by exact sx_tp hj) (by decide) (by rfl)) trivial ?_
  refine pj_J.seq (show va_rf (sx_T c j) :: _ = .ref i :: _ by rw [ht]; rfl) ?_
  refine pj_J.instNo dX3_sort_37 q1273 hi (by decide) ?_
  refine pj_J.go (oX3_sort G) 1 rfl trivial ?_
  refine pj_J.pos rfl ?_
  refine pj_J.go (oX3_sort G) 1 rfl trivial ?_
  refine pj_J.go1 (pc := 46) (oX3_sort G) rfl (po_getD (lo := 2) (hi := 2) (k := 0) (n := 49) (by exact sx_tp hj) (by decide) (by rfl)) trivial ?_
  refine pj_J.seq (show va_rf (sx_T c j) :: _ = .ref i :: _ by rw [ht]; rfl) ?_
  refine pj_J.instNo dX3_sort_49 q1274 hi (by decide) ?_
  refine pj_J.go (oX3_sort G) 1 rfl trivial ?_
  refine pj_J.pos rfl ?_
  refine pj_J.go (oX3_sort G) 1 rfl trivial ?_
  exact pj_iret dX3_sort_58 rfl ⟨rfl, rfl⟩
