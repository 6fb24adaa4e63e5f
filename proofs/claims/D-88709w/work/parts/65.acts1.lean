/-! PennyJudge: what acts do (by tools/gen_q1.py) -/
set_option maxRecDepth 100000
def fr_show (u : sx_M) (s how : Int32) : sx_M := sx_sI u 2 (upd (sx_I u 2) s.toNatClampNeg (vp_nar .boolean how))
theorem c_X6_show_0 {G : pj_G} {d : Nat} {c : sx_C} {m : sx_M} {o : Nat → Int64} {D : pj_H} {ci : Nat} {i : Nat} {kd s t v : Int32} (ha : D[i]? = some (.inr (ci, [.int kd, .int s, .int t, .int v]))) (hci : 5 ≤ ci ∧ ci ≤ 17) (hs : vp_in s 8) (how : Int32) : pj_Rt G mX6_show d [.ref (i + 98), .ref 10, .int how] (sx_mk c m o D) 0 0 none (sx_mk (sx_sR c 0 (fr_show (sx_R c 0) s how)) m o D) := by
  refine pj_Cn.start ?_
  refine pj_J.go (oX6_show G) 3 rfl trivial ?_
  refine pj_J.go1 (pc := 5) (oX6_show G) rfl (po_getD (lo := 5) (hi := 17) (k := 1) (n := 8) (by exact ha) hci (by rfl)) trivial ?_
  refine pj_J.go (oX6_show G) 2 rfl ⟨by exact hs, trivial⟩ ?_
  exact pj_vret dX6_show_10 rfl ⟨rfl, rfl⟩
theorem c_X6_show_1 {G : pj_G} {d : Nat} {c : sx_C} {m : sx_M} {o : Nat → Int64} {D : pj_H} {ci : Nat} {i : Nat} {kd s t v : Int32} (ha : D[i]? = some (.inr (ci, [.int kd, .int s, .int t, .int v]))) (hci : 5 ≤ ci ∧ ci ≤ 17) (hs : vp_in s 8) (how : Int32) : pj_Rt G mX6_show d [.ref (i + 98), .ref 21, .int how] (sx_mk c m o D) 0 0 none (sx_mk (sx_sR c 1 (fr_show (sx_R c 1) s how)) m o D) := by
  refine pj_Cn.start ?_
  refine pj_J.go (oX6_show G) 3 rfl trivial ?_
  refine pj_J.go1 (pc := 5) (oX6_show G) rfl (po_getD (lo := 5) (hi := 17) (k := 1) (n := 8) (by exact ha) hci (by rfl)) trivial ?_
  refine pj_J.go (oX6_show G) 2 rfl ⟨by exact hs, trivial⟩ ?_
  exact pj_vret dX6_show_10 rfl ⟨rfl, rfl⟩
theorem c_X6_show_2 {G : pj_G} {d : Nat} {c : sx_C} {m : sx_M} {o : Nat → Int64} {D : pj_H} {ci : Nat} {i : Nat} {kd s t v : Int32} (ha : D[i]? = some (.inr (ci, [.int kd, .int s, .int t, .int v]))) (hci : 5 ≤ ci ∧ ci ≤ 17) (hs : vp_in s 8) (how : Int32) : pj_Rt G mX6_show d [.ref (i + 98), .ref 32, .int how] (sx_mk c m o D) 0 0 none (sx_mk (sx_sR c 2 (fr_show (sx_R c 2) s how)) m o D) := by
  refine pj_Cn.start ?_
  refine pj_J.go (oX6_show G) 3 rfl trivial ?_
  refine pj_J.go1 (pc := 5) (oX6_show G) rfl (po_getD (lo := 5) (hi := 17) (k := 1) (n := 8) (by exact ha) hci (by rfl)) trivial ?_
  refine pj_J.go (oX6_show G) 2 rfl ⟨by exact hs, trivial⟩ ?_
  exact pj_vret dX6_show_10 rfl ⟨rfl, rfl⟩
def fa_rated (w u : sx_M) (s t v : Int32) : Int32 × sx_M := if (fr_put u s ((sx_L u 0 t.toNatClampNeg) * (sx_I w 0 v.toNatClampNeg).toInt64) ((sx_L u 1 t.toNatClampNeg) * (sx_I w 1 v.toNatClampNeg).toInt64)).1 = (0 : Int32) then ((fr_put u s ((sx_L u 0 t.toNatClampNeg) * (sx_I w 0 v.toNatClampNeg).toInt64) ((sx_L u 1 t.toNatClampNeg) * (sx_I w 1 v.toNatClampNeg).toInt64)).1, (fr_show ((fr_put u s ((sx_L u 0 t.toNatClampNeg) * (sx_I w 0 v.toNatClampNeg).toInt64) ((sx_L u 1 t.toNatClampNeg) * (sx_I w 1 v.toNatClampNeg).toInt64)).2) s (sx_I u 2 t.toNatClampNeg))) else ((fr_put u s ((sx_L u 0 t.toNatClampNeg) * (sx_I w 0 v.toNatClampNeg).toInt64) ((sx_L u 1 t.toNatClampNeg) * (sx_I w 1 v.toNatClampNeg).toInt64)).1, ((fr_put u s ((sx_L u 0 t.toNatClampNeg) * (sx_I w 0 v.toNatClampNeg).toInt64) ((sx_L u 1 t.toNatClampNeg) * (sx_I w 1 v.toNatClampNeg).toInt64)).2))
def fa_rated_ok (w u : sx_M) (s t v : Int32) : Prop := (-9223372036854775807 ≤ ((sx_L u 0 t.toNatClampNeg) * (sx_I w 0 v.toNatClampNeg).toInt64)) ∧ (0 < ((sx_L u 1 t.toNatClampNeg) * (sx_I w 1 v.toNatClampNeg).toInt64)) ∧ True
theorem c_X10_does_0 {G : pj_G} {d : Nat} {c : sx_C} {m : sx_M} {o : Nat → Int64} {D : pj_H} {i : Nat} {kd s t v : Int32} (ha : D[i]? = some (.inr (8, [.int kd, .int s, .int t, .int v]))) (hs : vp_in s 8) (ht : vp_in t 8) (hv : vp_in v 8) (hO : fa_rated_ok c.1 (sx_R c 0) s t v) : pj_Rt G mX10_does (d + 3) [.ref (i + 98), .ref 10] (sx_mk c m o D) 0 0 (some (.int (fa_rated c.1 (sx_R c 0) s t v).1)) (sx_mk (sx_sR c 0 ((fa_rated c.1 (sx_R c 0) s t v).2)) m o D) := by
  refine pj_Cn.start ?_
  refine pj_J.go (oX10_does G) 3 rfl trivial ?_
  refine pj_J.go1 (pc := 5) (oX10_does G) rfl (po_getD (lo := 5) (hi := 17) (k := 2) (n := 8) (by exact ha) (by decide) (by rfl)) trivial ?_
  refine pj_J.go (oX10_does G) 4 rfl ⟨by exact ht, trivial⟩ ?_
  refine pj_J.go1 (pc := 12) (oX10_does G) rfl (po_getD (lo := 5) (hi := 17) (k := 1) (n := 15) (by exact ha) (by decide) (by rfl)) trivial ?_
  refine pj_J.go (oX10_does G) 3 rfl trivial ?_
  refine pj_J.go1 (pc := 20) (oX10_does G) rfl (po_getD (lo := 5) (hi := 17) (k := 2) (n := 23) (by exact ha) (by decide) (by rfl)) trivial ?_
  refine pj_J.go (oX10_does G) 3 rfl ⟨by exact ht, trivial⟩ ?_
  refine pj_J.go1 (pc := 26) (oX10_does G) rfl (po_getD (lo := 5) (hi := 17) (k := 3) (n := 29) (by exact ha) (by decide) (by rfl)) trivial ?_
  refine pj_J.cal0 kX10_does_29 (c_X2_p_0 (c := c) v hv) ⟨_, _, _, rfl, rfl⟩ pj_le0 pj_le0 pj_le0 ?_
  refine pj_J.go (oX10_does G) 5 rfl trivial ?_
  refine pj_J.go1 (pc := 39) (oX10_does G) rfl (po_getD (lo := 5) (hi := 17) (k := 2) (n := 42) (by exact ha) (by decide) (by rfl)) trivial ?_
  refine pj_J.go (oX10_does G) 3 rfl ⟨by exact ht, trivial⟩ ?_
  refine pj_J.go1 (pc := 45) (oX10_does G) rfl (po_getD (lo := 5) (hi := 17) (k := 3) (n := 48) (by exact ha) (by decide) (by rfl)) trivial ?_
  refine pj_J.cal0 kX10_does_48 (c_X2_q_0 (c := c) v hv) ⟨_, _, _, rfl, rfl⟩ pj_le0 pj_le0 pj_le0 ?_
  refine pj_J.go (oX10_does G) 2 rfl trivial ?_
  refine pj_J.cal0 kX10_does_53 (c_X2_put_0 (c := c) s ((sx_L (sx_R c 0) 0 t.toNatClampNeg) * (sx_I c.1 0 v.toNatClampNeg).toInt64) ((sx_L (sx_R c 0) 1 t.toNatClampNeg) * (sx_I c.1 1 v.toNatClampNeg).toInt64) hs (hO.1) (hO.2.1)) ⟨_, _, _, rfl, rfl⟩ pj_le0 pj_le0 pj_le0 ?_
  refine pj_J.go (oX10_does G) 3 rfl trivial ?_
  refine pj_J.ite (fun hc58 => ?_) (fun hc58 => ?_)
  · skip
    refine pj_J.go (oX10_does G) 3 rfl trivial ?_
    refine pj_J.cal0 kX10_does_64 (c_X6_show_0 (c := (sx_sR c 0 ((fr_put (sx_R c 0) s ((sx_L (sx_R c 0) 0 t.toNatClampNeg) * (sx_I c.1 0 v.toNatClampNeg).toInt64) ((sx_L (sx_R c 0) 1 t.toNatClampNeg) * (sx_I c.1 1 v.toNatClampNeg).toInt64)).2))) ha (by decide) hs (sx_I (sx_R c 0) 2 t.toNatClampNeg)) ⟨_, _, _, rfl, ha⟩ pj_le0 pj_le0 pj_le0 ?_
    refine pj_J.go (oX10_does G) 1 rfl trivial ?_
    refine pj_iret dX10_does_68 rfl ?_
    show _ = _ ∧ _ = _
    have e : fa_rated c.1 (sx_R c 0) s t v = ((fr_put (sx_R c 0) s ((sx_L (sx_R c 0) 0 t.toNatClampNeg) * (sx_I c.1 0 v.toNatClampNeg).toInt64) ((sx_L (sx_R c 0) 1 t.toNatClampNeg) * (sx_I c.1 1 v.toNatClampNeg).toInt64)).1, (fr_show ((fr_put (sx_R c 0) s ((sx_L (sx_R c 0) 0 t.toNatClampNeg) * (sx_I c.1 0 v.toNatClampNeg).toInt64) ((sx_L (sx_R c 0) 1 t.toNatClampNeg) * (sx_I c.1 1 v.toNatClampNeg).toInt64)).2) s (sx_I (sx_R c 0) 2 t.toNatClampNeg))) := by unfold fa_rated; rw [if_pos (show (fr_put (sx_R c 0) s ((sx_L (sx_R c 0) 0 t.toNatClampNeg) * (sx_I c.1 0 v.toNatClampNeg).toInt64) ((sx_L (sx_R c 0) 1 t.toNatClampNeg) * (sx_I c.1 1 v.toNatClampNeg).toInt64)).1 = (0 : Int32) from hc58)]
    rw [e]
    try dsimp only
    exact ⟨rfl, rfl⟩
  · skip
    refine pj_J.go (oX10_does G) 1 rfl trivial ?_
    refine pj_iret dX10_does_68 rfl ?_
    show _ = _ ∧ _ = _
    have e : fa_rated c.1 (sx_R c 0) s t v = ((fr_put (sx_R c 0) s ((sx_L (sx_R c 0) 0 t.toNatClampNeg) * (sx_I c.1 0 v.toNatClampNeg).toInt64) ((sx_L (sx_R c 0) 1 t.toNatClampNeg) * (sx_I c.1 1 v.toNatClampNeg).toInt64)).1, ((fr_put (sx_R c 0) s ((sx_L (sx_R c 0) 0 t.toNatClampNeg) * (sx_I c.1 0 v.toNatClampNeg).toInt64) ((sx_L (sx_R c 0) 1 t.toNatClampNeg) * (sx_I c.1 1 v.toNatClampNeg).toInt64)).2)) := by unfold fa_rated; rw [if_neg (show ¬ ((fr_put (sx_R c 0) s ((sx_L (sx_R c 0) 0 t.toNatClampNeg) * (sx_I c.1 0 v.toNatClampNeg).toInt64) ((sx_L (sx_R c 0) 1 t.toNatClampNeg) * (sx_I c.1 1 v.toNatClampNeg).toInt64)).1 = (0 : Int32)) from hc58)]
    rw [e]
    try dsimp only
    exact ⟨rfl, rfl⟩
theorem c_X10_does_1 {G : pj_G} {d : Nat} {c : sx_C} {m : sx_M} {o : Nat → Int64} {D : pj_H} {i : Nat} {kd s t v : Int32} (ha : D[i]? = some (.inr (8, [.int kd, .int s, .int t, .int v]))) (hs : vp_in s 8) (ht : vp_in t 8) (hv : vp_in v 8) (hO : fa_rated_ok c.1 (sx_R c 1) s t v) : pj_Rt G mX10_does (d + 3) [.ref (i + 98), .ref 21] (sx_mk c m o D) 0 0 (some (.int (fa_rated c.1 (sx_R c 1) s t v).1)) (sx_mk (sx_sR c 1 ((fa_rated c.1 (sx_R c 1) s t v).2)) m o D) := by
  refine pj_Cn.start ?_
  refine pj_J.go (oX10_does G) 3 rfl trivial ?_
  refine pj_J.go1 (pc := 5) (oX10_does G) rfl (po_getD (lo := 5) (hi := 17) (k := 2) (n := 8) (by exact ha) (by decide) (by rfl)) trivial ?_
  refine pj_J.go (oX10_does G) 4 rfl ⟨by exact ht, trivial⟩ ?_
  refine pj_J.go1 (pc := 12) (oX10_does G) rfl (po_getD (lo := 5) (hi := 17) (k := 1) (n := 15) (by exact ha) (by decide) (by rfl)) trivial ?_
  refine pj_J.go (oX10_does G) 3 rfl trivial ?_
  refine pj_J.go1 (pc := 20) (oX10_does G) rfl (po_getD (lo := 5) (hi := 17) (k := 2) (n := 23) (by exact ha) (by decide) (by rfl)) trivial ?_
  refine pj_J.go (oX10_does G) 3 rfl ⟨by exact ht, trivial⟩ ?_
  refine pj_J.go1 (pc := 26) (oX10_does G) rfl (po_getD (lo := 5) (hi := 17) (k := 3) (n := 29) (by exact ha) (by decide) (by rfl)) trivial ?_
  refine pj_J.cal0 kX10_does_29 (c_X2_p_1 (c := c) v hv) ⟨_, _, _, rfl, rfl⟩ pj_le0 pj_le0 pj_le0 ?_
  refine pj_J.go (oX10_does G) 5 rfl trivial ?_
  refine pj_J.go1 (pc := 39) (oX10_does G) rfl (po_getD (lo := 5) (hi := 17) (k := 2) (n := 42) (by exact ha) (by decide) (by rfl)) trivial ?_
  refine pj_J.go (oX10_does G) 3 rfl ⟨by exact ht, trivial⟩ ?_
  refine pj_J.go1 (pc := 45) (oX10_does G) rfl (po_getD (lo := 5) (hi := 17) (k := 3) (n := 48) (by exact ha) (by decide) (by rfl)) trivial ?_
  refine pj_J.cal0 kX10_does_48 (c_X2_q_1 (c := c) v hv) ⟨_, _, _, rfl, rfl⟩ pj_le0 pj_le0 pj_le0 ?_
  refine pj_J.go (oX10_does G) 2 rfl trivial ?_
  refine pj_J.cal0 kX10_does_53 (c_X2_put_1 (c := c) s ((sx_L (sx_R c 1) 0 t.toNatClampNeg) * (sx_I c.1 0 v.toNatClampNeg).toInt64) ((sx_L (sx_R c 1) 1 t.toNatClampNeg) * (sx_I c.1 1 v.toNatClampNeg).toInt64) hs (hO.1) (hO.2.1)) ⟨_, _, _, rfl, rfl⟩ pj_le0 pj_le0 pj_le0 ?_
  refine pj_J.go (oX10_does G) 3 rfl trivial ?_
  refine pj_J.ite (fun hc58 => ?_) (fun hc58 => ?_)
  · skip
    refine pj_J.go (oX10_does G) 3 rfl trivial ?_
    refine pj_J.cal0 kX10_does_64 (c_X6_show_1 (c := (sx_sR c 1 ((fr_put (sx_R c 1) s ((sx_L (sx_R c 1) 0 t.toNatClampNeg) * (sx_I c.1 0 v.toNatClampNeg).toInt64) ((sx_L (sx_R c 1) 1 t.toNatClampNeg) * (sx_I c.1 1 v.toNatClampNeg).toInt64)).2))) ha (by decide) hs (sx_I (sx_R c 1) 2 t.toNatClampNeg)) ⟨_, _, _, rfl, ha⟩ pj_le0 pj_le0 pj_le0 ?_
    refine pj_J.go (oX10_does G) 1 rfl trivial ?_
    refine pj_iret dX10_does_68 rfl ?_
    show _ = _ ∧ _ = _
    have e : fa_rated c.1 (sx_R c 1) s t v = ((fr_put (sx_R c 1) s ((sx_L (sx_R c 1) 0 t.toNatClampNeg) * (sx_I c.1 0 v.toNatClampNeg).toInt64) ((sx_L (sx_R c 1) 1 t.toNatClampNeg) * (sx_I c.1 1 v.toNatClampNeg).toInt64)).1, (fr_show ((fr_put (sx_R c 1) s ((sx_L (sx_R c 1) 0 t.toNatClampNeg) * (sx_I c.1 0 v.toNatClampNeg).toInt64) ((sx_L (sx_R c 1) 1 t.toNatClampNeg) * (sx_I c.1 1 v.toNatClampNeg).toInt64)).2) s (sx_I (sx_R c 1) 2 t.toNatClampNeg))) := by unfold fa_rated; rw [if_pos (show (fr_put (sx_R c 1) s ((sx_L (sx_R c 1) 0 t.toNatClampNeg) * (sx_I c.1 0 v.toNatClampNeg).toInt64) ((sx_L (sx_R c 1) 1 t.toNatClampNeg) * (sx_I c.1 1 v.toNatClampNeg).toInt64)).1 = (0 : Int32) from hc58)]
    rw [e]
    try dsimp only
    exact ⟨rfl, rfl⟩
  · skip
    refine pj_J.go (oX10_does G) 1 rfl trivial ?_
    refine pj_iret dX10_does_68 rfl ?_
    show _ = _ ∧ _ = _
    have e : fa_rated c.1 (sx_R c 1) s t v = ((fr_put (sx_R c 1) s ((sx_L (sx_R c 1) 0 t.toNatClampNeg) * (sx_I c.1 0 v.toNatClampNeg).toInt64) ((sx_L (sx_R c 1) 1 t.toNatClampNeg) * (sx_I c.1 1 v.toNatClampNeg).toInt64)).1, ((fr_put (sx_R c 1) s ((sx_L (sx_R c 1) 0 t.toNatClampNeg) * (sx_I c.1 0 v.toNatClampNeg).toInt64) ((sx_L (sx_R c 1) 1 t.toNatClampNeg) * (sx_I c.1 1 v.toNatClampNeg).toInt64)).2)) := by unfold fa_rated; rw [if_neg (show ¬ ((fr_put (sx_R c 1) s ((sx_L (sx_R c 1) 0 t.toNatClampNeg) * (sx_I c.1 0 v.toNatClampNeg).toInt64) ((sx_L (sx_R c 1) 1 t.toNatClampNeg) * (sx_I c.1 1 v.toNatClampNeg).toInt64)).1 = (0 : Int32)) from hc58)]
    rw [e]
    try dsimp only
    exact ⟨rfl, rfl⟩
theorem c_X10_does_2 {G : pj_G} {d : Nat} {c : sx_C} {m : sx_M} {o : Nat → Int64} {D : pj_H} {i : Nat} {kd s t v : Int32} (ha : D[i]? = some (.inr (8, [.int kd, .int s, .int t, .int v]))) (hs : vp_in s 8) (ht : vp_in t 8) (hv : vp_in v 8) (hO : fa_rated_ok c.1 (sx_R c 2) s t v) : pj_Rt G mX10_does (d + 3) [.ref (i + 98), .ref 32] (sx_mk c m o D) 0 0 (some (.int (fa_rated c.1 (sx_R c 2) s t v).1)) (sx_mk (sx_sR c 2 ((fa_rated c.1 (sx_R c 2) s t v).2)) m o D) := by
  refine pj_Cn.start ?_
  refine pj_J.go (oX10_does G) 3 rfl trivial ?_
  refine pj_J.go1 (pc := 5) (oX10_does G) rfl (po_getD (lo := 5) (hi := 17) (k := 2) (n := 8) (by exact ha) (by decide) (by rfl)) trivial ?_
  refine pj_J.go (oX10_does G) 4 rfl ⟨by exact ht, trivial⟩ ?_
  refine pj_J.go1 (pc := 12) (oX10_does G) rfl (po_getD (lo := 5) (hi := 17) (k := 1) (n := 15) (by exact ha) (by decide) (by rfl)) trivial ?_
  refine pj_J.go (oX10_does G) 3 rfl trivial ?_
  refine pj_J.go1 (pc := 20) (oX10_does G) rfl (po_getD (lo := 5) (hi := 17) (k := 2) (n := 23) (by exact ha) (by decide) (by rfl)) trivial ?_
  refine pj_J.go (oX10_does G) 3 rfl ⟨by exact ht, trivial⟩ ?_
  refine pj_J.go1 (pc := 26) (oX10_does G) rfl (po_getD (lo := 5) (hi := 17) (k := 3) (n := 29) (by exact ha) (by decide) (by rfl)) trivial ?_
  refine pj_J.cal0 kX10_does_29 (c_X2_p_2 (c := c) v hv) ⟨_, _, _, rfl, rfl⟩ pj_le0 pj_le0 pj_le0 ?_
  refine pj_J.go (oX10_does G) 5 rfl trivial ?_
  refine pj_J.go1 (pc := 39) (oX10_does G) rfl (po_getD (lo := 5) (hi := 17) (k := 2) (n := 42) (by exact ha) (by decide) (by rfl)) trivial ?_
  refine pj_J.go (oX10_does G) 3 rfl ⟨by exact ht, trivial⟩ ?_
  refine pj_J.go1 (pc := 45) (oX10_does G) rfl (po_getD (lo := 5) (hi := 17) (k := 3) (n := 48) (by exact ha) (by decide) (by rfl)) trivial ?_
  refine pj_J.cal0 kX10_does_48 (c_X2_q_2 (c := c) v hv) ⟨_, _, _, rfl, rfl⟩ pj_le0 pj_le0 pj_le0 ?_
  refine pj_J.go (oX10_does G) 2 rfl trivial ?_
  refine pj_J.cal0 kX10_does_53 (c_X2_put_2 (c := c) s ((sx_L (sx_R c 2) 0 t.toNatClampNeg) * (sx_I c.1 0 v.toNatClampNeg).toInt64) ((sx_L (sx_R c 2) 1 t.toNatClampNeg) * (sx_I c.1 1 v.toNatClampNeg).toInt64) hs (hO.1) (hO.2.1)) ⟨_, _, _, rfl, rfl⟩ pj_le0 pj_le0 pj_le0 ?_
  refine pj_J.go (oX10_does G) 3 rfl trivial ?_
  refine pj_J.ite (fun hc58 => ?_) (fun hc58 => ?_)
  · skip
    refine pj_J.go (oX10_does G) 3 rfl trivial ?_
    refine pj_J.cal0 kX10_does_64 (c_X6_show_2 (c := (sx_sR c 2 ((fr_put (sx_R c 2) s ((sx_L (sx_R c 2) 0 t.toNatClampNeg) * (sx_I c.1 0 v.toNatClampNeg).toInt64) ((sx_L (sx_R c 2) 1 t.toNatClampNeg) * (sx_I c.1 1 v.toNatClampNeg).toInt64)).2))) ha (by decide) hs (sx_I (sx_R c 2) 2 t.toNatClampNeg)) ⟨_, _, _, rfl, ha⟩ pj_le0 pj_le0 pj_le0 ?_
    refine pj_J.go (oX10_does G) 1 rfl trivial ?_
    refine pj_iret dX10_does_68 rfl ?_
    show _ = _ ∧ _ = _
    have e : fa_rated c.1 (sx_R c 2) s t v = ((fr_put (sx_R c 2) s ((sx_L (sx_R c 2) 0 t.toNatClampNeg) * (sx_I c.1 0 v.toNatClampNeg).toInt64) ((sx_L (sx_R c 2) 1 t.toNatClampNeg) * (sx_I c.1 1 v.toNatClampNeg).toInt64)).1, (fr_show ((fr_put (sx_R c 2) s ((sx_L (sx_R c 2) 0 t.toNatClampNeg) * (sx_I c.1 0 v.toNatClampNeg).toInt64) ((sx_L (sx_R c 2) 1 t.toNatClampNeg) * (sx_I c.1 1 v.toNatClampNeg).toInt64)).2) s (sx_I (sx_R c 2) 2 t.toNatClampNeg))) := by unfold fa_rated; rw [if_pos (show (fr_put (sx_R c 2) s ((sx_L (sx_R c 2) 0 t.toNatClampNeg) * (sx_I c.1 0 v.toNatClampNeg).toInt64) ((sx_L (sx_R c 2) 1 t.toNatClampNeg) * (sx_I c.1 1 v.toNatClampNeg).toInt64)).1 = (0 : Int32) from hc58)]
    rw [e]
    try dsimp only
    exact ⟨rfl, rfl⟩
  · skip
    refine pj_J.go (oX10_does G) 1 rfl trivial ?_
    refine pj_iret dX10_does_68 rfl ?_
    show _ = _ ∧ _ = _
    have e : fa_rated c.1 (sx_R c 2) s t v = ((fr_put (sx_R c 2) s ((sx_L (sx_R c 2) 0 t.toNatClampNeg) * (sx_I c.1 0 v.toNatClampNeg).toInt64) ((sx_L (sx_R c 2) 1 t.toNatClampNeg) * (sx_I c.1 1 v.toNatClampNeg).toInt64)).1, ((fr_put (sx_R c 2) s ((sx_L (sx_R c 2) 0 t.toNatClampNeg) * (sx_I c.1 0 v.toNatClampNeg).toInt64) ((sx_L (sx_R c 2) 1 t.toNatClampNeg) * (sx_I c.1 1 v.toNatClampNeg).toInt64)).2)) := by unfold fa_rated; rw [if_neg (show ¬ ((fr_put (sx_R c 2) s ((sx_L (sx_R c 2) 0 t.toNatClampNeg) * (sx_I c.1 0 v.toNatClampNeg).toInt64) ((sx_L (sx_R c 2) 1 t.toNatClampNeg) * (sx_I c.1 1 v.toNatClampNeg).toInt64)).1 = (0 : Int32)) from hc58)]
    rw [e]
    try dsimp only
    exact ⟨rfl, rfl⟩
def fa_rounded (w u : sx_M) (s t v : Int32) : Int32 × sx_M := ((fr_put u s ((fc_whole (sx_L u 0 s.toNatClampNeg) ((sx_L u 1 s.toNatClampNeg) * v.toInt64) t) * v.toInt64) (1 : Int64)).1, ((fr_put u s ((fc_whole (sx_L u 0 s.toNatClampNeg) ((sx_L u 1 s.toNatClampNeg) * v.toInt64) t) * v.toInt64) (1 : Int64)).2))
def fa_rounded_ok (w u : sx_M) (s t v : Int32) : Prop := (¬ ((sx_L u 1 s.toNatClampNeg) * v.toInt64) = 0) ∧ (-9223372036854775807 ≤ ((fc_whole (sx_L u 0 s.toNatClampNeg) ((sx_L u 1 s.toNatClampNeg) * v.toInt64) t) * v.toInt64)) ∧ True
theorem c_X11_does_0 {G : pj_G} {d : Nat} {c : sx_C} {m : sx_M} {o : Nat → Int64} {D : pj_H} {i : Nat} {kd s t v : Int32} (ha : D[i]? = some (.inr (9, [.int kd, .int s, .int t, .int v]))) (hs : vp_in s 8) (hO : fa_rounded_ok c.1 (sx_R c 0) s t v) : pj_Rt G mX11_does (d + 3) [.ref (i + 98), .ref 10] (sx_mk c m o D) 0 0 (some (.int (fa_rounded c.1 (sx_R c 0) s t v).1)) (sx_mk (sx_sR c 0 ((fa_rounded c.1 (sx_R c 0) s t v).2)) m o D) := by
  refine pj_Cn.start ?_
  refine pj_J.go (oX11_does G) 2 rfl trivial ?_
  refine pj_J.go1 (pc := 2) (oX11_does G) rfl (po_getD (lo := 5) (hi := 17) (k := 1) (n := 5) (by exact ha) (by decide) (by rfl)) trivial ?_
  refine pj_J.go (oX11_does G) 3 rfl trivial ?_
  refine pj_J.go1 (pc := 10) (oX11_does G) rfl (po_getD (lo := 5) (hi := 17) (k := 1) (n := 13) (by exact ha) (by decide) (by rfl)) trivial ?_
  refine pj_J.go (oX11_does G) 4 rfl ⟨by exact hs, trivial⟩ ?_
  refine pj_J.go1 (pc := 19) (oX11_does G) rfl (po_getD (lo := 5) (hi := 17) (k := 1) (n := 22) (by exact ha) (by decide) (by rfl)) trivial ?_
  refine pj_J.go (oX11_does G) 2 rfl ⟨by exact hs, trivial⟩ ?_
  refine pj_J.go1 (pc := 24) (oX11_does G) rfl (po_getD (lo := 5) (hi := 17) (k := 3) (n := 27) (by exact ha) (by decide) (by rfl)) trivial ?_
  refine pj_J.go (oX11_does G) 3 rfl trivial ?_
  refine pj_J.go1 (pc := 30) (oX11_does G) rfl (po_getD (lo := 5) (hi := 17) (k := 2) (n := 33) (by exact ha) (by decide) (by rfl)) trivial ?_
  refine pj_J.cal0 kX11_does_33 (c_X1_whole (sx_L (sx_R c 0) 0 s.toNatClampNeg) ((sx_L (sx_R c 0) 1 s.toNatClampNeg) * v.toInt64) t (hO.1)) trivial pj_le0 pj_le0 pj_le0 ?_
  refine pj_J.go (oX11_does G) 1 rfl trivial ?_
  refine pj_J.go1 (pc := 37) (oX11_does G) rfl (po_getD (lo := 5) (hi := 17) (k := 3) (n := 40) (by exact ha) (by decide) (by rfl)) trivial ?_
  refine pj_J.go (oX11_does G) 3 rfl trivial ?_
  refine pj_J.cal0 kX11_does_43 (c_X2_put_0 (c := c) s ((fc_whole (sx_L (sx_R c 0) 0 s.toNatClampNeg) ((sx_L (sx_R c 0) 1 s.toNatClampNeg) * v.toInt64) t) * v.toInt64) (1 : Int64) hs (hO.2.1) (by decide)) ⟨_, _, _, rfl, rfl⟩ pj_le0 pj_le0 pj_le0 ?_
  refine pj_iret dX11_does_46 rfl ?_
  show _ = _ ∧ _ = _
  unfold fa_rounded
  try dsimp only
  exact ⟨rfl, rfl⟩
theorem c_X11_does_1 {G : pj_G} {d : Nat} {c : sx_C} {m : sx_M} {o : Nat → Int64} {D : pj_H} {i : Nat} {kd s t v : Int32} (ha : D[i]? = some (.inr (9, [.int kd, .int s, .int t, .int v]))) (hs : vp_in s 8) (hO : fa_rounded_ok c.1 (sx_R c 1) s t v) : pj_Rt G mX11_does (d + 3) [.ref (i + 98), .ref 21] (sx_mk c m o D) 0 0 (some (.int (fa_rounded c.1 (sx_R c 1) s t v).1)) (sx_mk (sx_sR c 1 ((fa_rounded c.1 (sx_R c 1) s t v).2)) m o D) := by
  refine pj_Cn.start ?_
  refine pj_J.go (oX11_does G) 2 rfl trivial ?_
  refine pj_J.go1 (pc := 2) (oX11_does G) rfl (po_getD (lo := 5) (hi := 17) (k := 1) (n := 5) (by exact ha) (by decide) (by rfl)) trivial ?_
  refine pj_J.go (oX11_does G) 3 rfl trivial ?_
  refine pj_J.go1 (pc := 10) (oX11_does G) rfl (po_getD (lo := 5) (hi := 17) (k := 1) (n := 13) (by exact ha) (by decide) (by rfl)) trivial ?_
  refine pj_J.go (oX11_does G) 4 rfl ⟨by exact hs, trivial⟩ ?_
  refine pj_J.go1 (pc := 19) (oX11_does G) rfl (po_getD (lo := 5) (hi := 17) (k := 1) (n := 22) (by exact ha) (by decide) (by rfl)) trivial ?_
  refine pj_J.go (oX11_does G) 2 rfl ⟨by exact hs, trivial⟩ ?_
  refine pj_J.go1 (pc := 24) (oX11_does G) rfl (po_getD (lo := 5) (hi := 17) (k := 3) (n := 27) (by exact ha) (by decide) (by rfl)) trivial ?_
  refine pj_J.go (oX11_does G) 3 rfl trivial ?_
  refine pj_J.go1 (pc := 30) (oX11_does G) rfl (po_getD (lo := 5) (hi := 17) (k := 2) (n := 33) (by exact ha) (by decide) (by rfl)) trivial ?_
  refine pj_J.cal0 kX11_does_33 (c_X1_whole (sx_L (sx_R c 1) 0 s.toNatClampNeg) ((sx_L (sx_R c 1) 1 s.toNatClampNeg) * v.toInt64) t (hO.1)) trivial pj_le0 pj_le0 pj_le0 ?_
  refine pj_J.go (oX11_does G) 1 rfl trivial ?_
  refine pj_J.go1 (pc := 37) (oX11_does G) rfl (po_getD (lo := 5) (hi := 17) (k := 3) (n := 40) (by exact ha) (by decide) (by rfl)) trivial ?_
  refine pj_J.go (oX11_does G) 3 rfl trivial ?_
  refine pj_J.cal0 kX11_does_43 (c_X2_put_1 (c := c) s ((fc_whole (sx_L (sx_R c 1) 0 s.toNatClampNeg) ((sx_L (sx_R c 1) 1 s.toNatClampNeg) * v.toInt64) t) * v.toInt64) (1 : Int64) hs (hO.2.1) (by decide)) ⟨_, _, _, rfl, rfl⟩ pj_le0 pj_le0 pj_le0 ?_
  refine pj_iret dX11_does_46 rfl ?_
  show _ = _ ∧ _ = _
  unfold fa_rounded
  try dsimp only
  exact ⟨rfl, rfl⟩
theorem c_X11_does_2 {G : pj_G} {d : Nat} {c : sx_C} {m : sx_M} {o : Nat → Int64} {D : pj_H} {i : Nat} {kd s t v : Int32} (ha : D[i]? = some (.inr (9, [.int kd, .int s, .int t, .int v]))) (hs : vp_in s 8) (hO : fa_rounded_ok c.1 (sx_R c 2) s t v) : pj_Rt G mX11_does (d + 3) [.ref (i + 98), .ref 32] (sx_mk c m o D) 0 0 (some (.int (fa_rounded c.1 (sx_R c 2) s t v).1)) (sx_mk (sx_sR c 2 ((fa_rounded c.1 (sx_R c 2) s t v).2)) m o D) := by
  refine pj_Cn.start ?_
  refine pj_J.go (oX11_does G) 2 rfl trivial ?_
  refine pj_J.go1 (pc := 2) (oX11_does G) rfl (po_getD (lo := 5) (hi := 17) (k := 1) (n := 5) (by exact ha) (by decide) (by rfl)) trivial ?_
  refine pj_J.go (oX11_does G) 3 rfl trivial ?_
  refine pj_J.go1 (pc := 10) (oX11_does G) rfl (po_getD (lo := 5) (hi := 17) (k := 1) (n := 13) (by exact ha) (by decide) (by rfl)) trivial ?_
  refine pj_J.go (oX11_does G) 4 rfl ⟨by exact hs, trivial⟩ ?_
  refine pj_J.go1 (pc := 19) (oX11_does G) rfl (po_getD (lo := 5) (hi := 17) (k := 1) (n := 22) (by exact ha) (by decide) (by rfl)) trivial ?_
  refine pj_J.go (oX11_does G) 2 rfl ⟨by exact hs, trivial⟩ ?_
  refine pj_J.go1 (pc := 24) (oX11_does G) rfl (po_getD (lo := 5) (hi := 17) (k := 3) (n := 27) (by exact ha) (by decide) (by rfl)) trivial ?_
  refine pj_J.go (oX11_does G) 3 rfl trivial ?_
  refine pj_J.go1 (pc := 30) (oX11_does G) rfl (po_getD (lo := 5) (hi := 17) (k := 2) (n := 33) (by exact ha) (by decide) (by rfl)) trivial ?_
  refine pj_J.cal0 kX11_does_33 (c_X1_whole (sx_L (sx_R c 2) 0 s.toNatClampNeg) ((sx_L (sx_R c 2) 1 s.toNatClampNeg) * v.toInt64) t (hO.1)) trivial pj_le0 pj_le0 pj_le0 ?_
  refine pj_J.go (oX11_does G) 1 rfl trivial ?_
  refine pj_J.go1 (pc := 37) (oX11_does G) rfl (po_getD (lo := 5) (hi := 17) (k := 3) (n := 40) (by exact ha) (by decide) (by rfl)) trivial ?_
  refine pj_J.go (oX11_does G) 3 rfl trivial ?_
  refine pj_J.cal0 kX11_does_43 (c_X2_put_2 (c := c) s ((fc_whole (sx_L (sx_R c 2) 0 s.toNatClampNeg) ((sx_L (sx_R c 2) 1 s.toNatClampNeg) * v.toInt64) t) * v.toInt64) (1 : Int64) hs (hO.2.1) (by decide)) ⟨_, _, _, rfl, rfl⟩ pj_le0 pj_le0 pj_le0 ?_
  refine pj_iret dX11_does_46 rfl ?_
  show _ = _ ∧ _ = _
  unfold fa_rounded
  try dsimp only
  exact ⟨rfl, rfl⟩
def fa_added (w u : sx_M) (s t v : Int32) : Int32 × sx_M := if (sx_I u 2 s.toNatClampNeg) = (0 : Int32) then (if (sx_I u 2 t.toNatClampNeg) = (0 : Int32) then (if v = (0 : Int32) then (if (fr_put u s (((sx_L u 0 s.toNatClampNeg) * (sx_L u 1 t.toNatClampNeg)) + (((1 : Int64) * (sx_L u 0 t.toNatClampNeg)) * (sx_L u 1 s.toNatClampNeg))) ((sx_L u 1 s.toNatClampNeg) * (sx_L u 1 t.toNatClampNeg))).1 = (0 : Int32) then ((fr_put u s (((sx_L u 0 s.toNatClampNeg) * (sx_L u 1 t.toNatClampNeg)) + (((1 : Int64) * (sx_L u 0 t.toNatClampNeg)) * (sx_L u 1 s.toNatClampNeg))) ((sx_L u 1 s.toNatClampNeg) * (sx_L u 1 t.toNatClampNeg))).1, (fr_show ((fr_put u s (((sx_L u 0 s.toNatClampNeg) * (sx_L u 1 t.toNatClampNeg)) + (((1 : Int64) * (sx_L u 0 t.toNatClampNeg)) * (sx_L u 1 s.toNatClampNeg))) ((sx_L u 1 s.toNatClampNeg) * (sx_L u 1 t.toNatClampNeg))).2) s (0 : Int32))) else ((fr_put u s (((sx_L u 0 s.toNatClampNeg) * (sx_L u 1 t.toNatClampNeg)) + (((1 : Int64) * (sx_L u 0 t.toNatClampNeg)) * (sx_L u 1 s.toNatClampNeg))) ((sx_L u 1 s.toNatClampNeg) * (sx_L u 1 t.toNatClampNeg))).1, ((fr_put u s (((sx_L u 0 s.toNatClampNeg) * (sx_L u 1 t.toNatClampNeg)) + (((1 : Int64) * (sx_L u 0 t.toNatClampNeg)) * (sx_L u 1 s.toNatClampNeg))) ((sx_L u 1 s.toNatClampNeg) * (sx_L u 1 t.toNatClampNeg))).2))) else (if (fr_put u s (((sx_L u 0 s.toNatClampNeg) * (sx_L u 1 t.toNatClampNeg)) + (((-1 : Int64) * (sx_L u 0 t.toNatClampNeg)) * (sx_L u 1 s.toNatClampNeg))) ((sx_L u 1 s.toNatClampNeg) * (sx_L u 1 t.toNatClampNeg))).1 = (0 : Int32) then ((fr_put u s (((sx_L u 0 s.toNatClampNeg) * (sx_L u 1 t.toNatClampNeg)) + (((-1 : Int64) * (sx_L u 0 t.toNatClampNeg)) * (sx_L u 1 s.toNatClampNeg))) ((sx_L u 1 s.toNatClampNeg) * (sx_L u 1 t.toNatClampNeg))).1, (fr_show ((fr_put u s (((sx_L u 0 s.toNatClampNeg) * (sx_L u 1 t.toNatClampNeg)) + (((-1 : Int64) * (sx_L u 0 t.toNatClampNeg)) * (sx_L u 1 s.toNatClampNeg))) ((sx_L u 1 s.toNatClampNeg) * (sx_L u 1 t.toNatClampNeg))).2) s (0 : Int32))) else ((fr_put u s (((sx_L u 0 s.toNatClampNeg) * (sx_L u 1 t.toNatClampNeg)) + (((-1 : Int64) * (sx_L u 0 t.toNatClampNeg)) * (sx_L u 1 s.toNatClampNeg))) ((sx_L u 1 s.toNatClampNeg) * (sx_L u 1 t.toNatClampNeg))).1, ((fr_put u s (((sx_L u 0 s.toNatClampNeg) * (sx_L u 1 t.toNatClampNeg)) + (((-1 : Int64) * (sx_L u 0 t.toNatClampNeg)) * (sx_L u 1 s.toNatClampNeg))) ((sx_L u 1 s.toNatClampNeg) * (sx_L u 1 t.toNatClampNeg))).2)))) else (if v = (0 : Int32) then (if (fr_put u s (((sx_L u 0 s.toNatClampNeg) * (sx_L u 1 t.toNatClampNeg)) + (((1 : Int64) * (sx_L u 0 t.toNatClampNeg)) * (sx_L u 1 s.toNatClampNeg))) ((sx_L u 1 s.toNatClampNeg) * (sx_L u 1 t.toNatClampNeg))).1 = (0 : Int32) then ((fr_put u s (((sx_L u 0 s.toNatClampNeg) * (sx_L u 1 t.toNatClampNeg)) + (((1 : Int64) * (sx_L u 0 t.toNatClampNeg)) * (sx_L u 1 s.toNatClampNeg))) ((sx_L u 1 s.toNatClampNeg) * (sx_L u 1 t.toNatClampNeg))).1, (fr_show ((fr_put u s (((sx_L u 0 s.toNatClampNeg) * (sx_L u 1 t.toNatClampNeg)) + (((1 : Int64) * (sx_L u 0 t.toNatClampNeg)) * (sx_L u 1 s.toNatClampNeg))) ((sx_L u 1 s.toNatClampNeg) * (sx_L u 1 t.toNatClampNeg))).2) s (1 : Int32))) else ((fr_put u s (((sx_L u 0 s.toNatClampNeg) * (sx_L u 1 t.toNatClampNeg)) + (((1 : Int64) * (sx_L u 0 t.toNatClampNeg)) * (sx_L u 1 s.toNatClampNeg))) ((sx_L u 1 s.toNatClampNeg) * (sx_L u 1 t.toNatClampNeg))).1, ((fr_put u s (((sx_L u 0 s.toNatClampNeg) * (sx_L u 1 t.toNatClampNeg)) + (((1 : Int64) * (sx_L u 0 t.toNatClampNeg)) * (sx_L u 1 s.toNatClampNeg))) ((sx_L u 1 s.toNatClampNeg) * (sx_L u 1 t.toNatClampNeg))).2))) else (if (fr_put u s (((sx_L u 0 s.toNatClampNeg) * (sx_L u 1 t.toNatClampNeg)) + (((-1 : Int64) * (sx_L u 0 t.toNatClampNeg)) * (sx_L u 1 s.toNatClampNeg))) ((sx_L u 1 s.toNatClampNeg) * (sx_L u 1 t.toNatClampNeg))).1 = (0 : Int32) then ((fr_put u s (((sx_L u 0 s.toNatClampNeg) * (sx_L u 1 t.toNatClampNeg)) + (((-1 : Int64) * (sx_L u 0 t.toNatClampNeg)) * (sx_L u 1 s.toNatClampNeg))) ((sx_L u 1 s.toNatClampNeg) * (sx_L u 1 t.toNatClampNeg))).1, (fr_show ((fr_put u s (((sx_L u 0 s.toNatClampNeg) * (sx_L u 1 t.toNatClampNeg)) + (((-1 : Int64) * (sx_L u 0 t.toNatClampNeg)) * (sx_L u 1 s.toNatClampNeg))) ((sx_L u 1 s.toNatClampNeg) * (sx_L u 1 t.toNatClampNeg))).2) s (1 : Int32))) else ((fr_put u s (((sx_L u 0 s.toNatClampNeg) * (sx_L u 1 t.toNatClampNeg)) + (((-1 : Int64) * (sx_L u 0 t.toNatClampNeg)) * (sx_L u 1 s.toNatClampNeg))) ((sx_L u 1 s.toNatClampNeg) * (sx_L u 1 t.toNatClampNeg))).1, ((fr_put u s (((sx_L u 0 s.toNatClampNeg) * (sx_L u 1 t.toNatClampNeg)) + (((-1 : Int64) * (sx_L u 0 t.toNatClampNeg)) * (sx_L u 1 s.toNatClampNeg))) ((sx_L u 1 s.toNatClampNeg) * (sx_L u 1 t.toNatClampNeg))).2))))) else (if v = (0 : Int32) then (if (fr_put u s (((sx_L u 0 s.toNatClampNeg) * (sx_L u 1 t.toNatClampNeg)) + (((1 : Int64) * (sx_L u 0 t.toNatClampNeg)) * (sx_L u 1 s.toNatClampNeg))) ((sx_L u 1 s.toNatClampNeg) * (sx_L u 1 t.toNatClampNeg))).1 = (0 : Int32) then ((fr_put u s (((sx_L u 0 s.toNatClampNeg) * (sx_L u 1 t.toNatClampNeg)) + (((1 : Int64) * (sx_L u 0 t.toNatClampNeg)) * (sx_L u 1 s.toNatClampNeg))) ((sx_L u 1 s.toNatClampNeg) * (sx_L u 1 t.toNatClampNeg))).1, (fr_show ((fr_put u s (((sx_L u 0 s.toNatClampNeg) * (sx_L u 1 t.toNatClampNeg)) + (((1 : Int64) * (sx_L u 0 t.toNatClampNeg)) * (sx_L u 1 s.toNatClampNeg))) ((sx_L u 1 s.toNatClampNeg) * (sx_L u 1 t.toNatClampNeg))).2) s (1 : Int32))) else ((fr_put u s (((sx_L u 0 s.toNatClampNeg) * (sx_L u 1 t.toNatClampNeg)) + (((1 : Int64) * (sx_L u 0 t.toNatClampNeg)) * (sx_L u 1 s.toNatClampNeg))) ((sx_L u 1 s.toNatClampNeg) * (sx_L u 1 t.toNatClampNeg))).1, ((fr_put u s (((sx_L u 0 s.toNatClampNeg) * (sx_L u 1 t.toNatClampNeg)) + (((1 : Int64) * (sx_L u 0 t.toNatClampNeg)) * (sx_L u 1 s.toNatClampNeg))) ((sx_L u 1 s.toNatClampNeg) * (sx_L u 1 t.toNatClampNeg))).2))) else (if (fr_put u s (((sx_L u 0 s.toNatClampNeg) * (sx_L u 1 t.toNatClampNeg)) + (((-1 : Int64) * (sx_L u 0 t.toNatClampNeg)) * (sx_L u 1 s.toNatClampNeg))) ((sx_L u 1 s.toNatClampNeg) * (sx_L u 1 t.toNatClampNeg))).1 = (0 : Int32) then ((fr_put u s (((sx_L u 0 s.toNatClampNeg) * (sx_L u 1 t.toNatClampNeg)) + (((-1 : Int64) * (sx_L u 0 t.toNatClampNeg)) * (sx_L u 1 s.toNatClampNeg))) ((sx_L u 1 s.toNatClampNeg) * (sx_L u 1 t.toNatClampNeg))).1, (fr_show ((fr_put u s (((sx_L u 0 s.toNatClampNeg) * (sx_L u 1 t.toNatClampNeg)) + (((-1 : Int64) * (sx_L u 0 t.toNatClampNeg)) * (sx_L u 1 s.toNatClampNeg))) ((sx_L u 1 s.toNatClampNeg) * (sx_L u 1 t.toNatClampNeg))).2) s (1 : Int32))) else ((fr_put u s (((sx_L u 0 s.toNatClampNeg) * (sx_L u 1 t.toNatClampNeg)) + (((-1 : Int64) * (sx_L u 0 t.toNatClampNeg)) * (sx_L u 1 s.toNatClampNeg))) ((sx_L u 1 s.toNatClampNeg) * (sx_L u 1 t.toNatClampNeg))).1, ((fr_put u s (((sx_L u 0 s.toNatClampNeg) * (sx_L u 1 t.toNatClampNeg)) + (((-1 : Int64) * (sx_L u 0 t.toNatClampNeg)) * (sx_L u 1 s.toNatClampNeg))) ((sx_L u 1 s.toNatClampNeg) * (sx_L u 1 t.toNatClampNeg))).2))))
def fa_added_ok (w u : sx_M) (s t v : Int32) : Prop := ((sx_I u 2 s.toNatClampNeg) = (0 : Int32) → (sx_I u 2 t.toNatClampNeg) = (0 : Int32) → v = (0 : Int32) → -9223372036854775807 ≤ (((sx_L u 0 s.toNatClampNeg) * (sx_L u 1 t.toNatClampNeg)) + (((1 : Int64) * (sx_L u 0 t.toNatClampNeg)) * (sx_L u 1 s.toNatClampNeg)))) ∧ ((sx_I u 2 s.toNatClampNeg) = (0 : Int32) → (sx_I u 2 t.toNatClampNeg) = (0 : Int32) → v = (0 : Int32) → 0 < ((sx_L u 1 s.toNatClampNeg) * (sx_L u 1 t.toNatClampNeg))) ∧ ((sx_I u 2 s.toNatClampNeg) = (0 : Int32) → (sx_I u 2 t.toNatClampNeg) = (0 : Int32) → ¬ (v = (0 : Int32)) → -9223372036854775807 ≤ (((sx_L u 0 s.toNatClampNeg) * (sx_L u 1 t.toNatClampNeg)) + (((-1 : Int64) * (sx_L u 0 t.toNatClampNeg)) * (sx_L u 1 s.toNatClampNeg)))) ∧ ((sx_I u 2 s.toNatClampNeg) = (0 : Int32) → (sx_I u 2 t.toNatClampNeg) = (0 : Int32) → ¬ (v = (0 : Int32)) → 0 < ((sx_L u 1 s.toNatClampNeg) * (sx_L u 1 t.toNatClampNeg))) ∧ ((sx_I u 2 s.toNatClampNeg) = (0 : Int32) → ¬ ((sx_I u 2 t.toNatClampNeg) = (0 : Int32)) → v = (0 : Int32) → -9223372036854775807 ≤ (((sx_L u 0 s.toNatClampNeg) * (sx_L u 1 t.toNatClampNeg)) + (((1 : Int64) * (sx_L u 0 t.toNatClampNeg)) * (sx_L u 1 s.toNatClampNeg)))) ∧ ((sx_I u 2 s.toNatClampNeg) = (0 : Int32) → ¬ ((sx_I u 2 t.toNatClampNeg) = (0 : Int32)) → v = (0 : Int32) → 0 < ((sx_L u 1 s.toNatClampNeg) * (sx_L u 1 t.toNatClampNeg))) ∧ ((sx_I u 2 s.toNatClampNeg) = (0 : Int32) → ¬ ((sx_I u 2 t.toNatClampNeg) = (0 : Int32)) → ¬ (v = (0 : Int32)) → -9223372036854775807 ≤ (((sx_L u 0 s.toNatClampNeg) * (sx_L u 1 t.toNatClampNeg)) + (((-1 : Int64) * (sx_L u 0 t.toNatClampNeg)) * (sx_L u 1 s.toNatClampNeg)))) ∧ ((sx_I u 2 s.toNatClampNeg) = (0 : Int32) → ¬ ((sx_I u 2 t.toNatClampNeg) = (0 : Int32)) → ¬ (v = (0 : Int32)) → 0 < ((sx_L u 1 s.toNatClampNeg) * (sx_L u 1 t.toNatClampNeg))) ∧ (¬ ((sx_I u 2 s.toNatClampNeg) = (0 : Int32)) → v = (0 : Int32) → -9223372036854775807 ≤ (((sx_L u 0 s.toNatClampNeg) * (sx_L u 1 t.toNatClampNeg)) + (((1 : Int64) * (sx_L u 0 t.toNatClampNeg)) * (sx_L u 1 s.toNatClampNeg)))) ∧ (¬ ((sx_I u 2 s.toNatClampNeg) = (0 : Int32)) → v = (0 : Int32) → 0 < ((sx_L u 1 s.toNatClampNeg) * (sx_L u 1 t.toNatClampNeg))) ∧ (¬ ((sx_I u 2 s.toNatClampNeg) = (0 : Int32)) → ¬ (v = (0 : Int32)) → -9223372036854775807 ≤ (((sx_L u 0 s.toNatClampNeg) * (sx_L u 1 t.toNatClampNeg)) + (((-1 : Int64) * (sx_L u 0 t.toNatClampNeg)) * (sx_L u 1 s.toNatClampNeg)))) ∧ (¬ ((sx_I u 2 s.toNatClampNeg) = (0 : Int32)) → ¬ (v = (0 : Int32)) → 0 < ((sx_L u 1 s.toNatClampNeg) * (sx_L u 1 t.toNatClampNeg))) ∧ True
theorem c_X12_does_0 {G : pj_G} {d : Nat} {c : sx_C} {m : sx_M} {o : Nat → Int64} {D : pj_H} {i : Nat} {kd s t v : Int32} (ha : D[i]? = some (.inr (10, [.int kd, .int s, .int t, .int v]))) (hs : vp_in s 8) (ht : vp_in t 8) (hO : fa_added_ok c.1 (sx_R c 0) s t v) : pj_Rt G mX12_does (d + 3) [.ref (i + 98), .ref 10] (sx_mk c m o D) 0 0 (some (.int (fa_added c.1 (sx_R c 0) s t v).1)) (sx_mk (sx_sR c 0 ((fa_added c.1 (sx_R c 0) s t v).2)) m o D) := by
  refine pj_Cn.start ?_
  refine pj_J.go (oX12_does G) 3 rfl trivial ?_
  refine pj_J.go1 (pc := 5) (oX12_does G) rfl (po_getD (lo := 5) (hi := 17) (k := 1) (n := 8) (by exact ha) (by decide) (by rfl)) trivial ?_
  refine pj_J.go (oX12_does G) 2 rfl ⟨by exact hs, trivial⟩ ?_
  refine pj_J.ite (fun hc9 => ?_) (fun hc9 => ?_)
  · skip
    refine pj_J.go (oX12_does G) 3 rfl trivial ?_
    refine pj_J.go1 (pc := 17) (oX12_does G) rfl (po_getD (lo := 5) (hi := 17) (k := 2) (n := 20) (by exact ha) (by decide) (by rfl)) trivial ?_
    refine pj_J.go (oX12_does G) 2 rfl ⟨by exact ht, trivial⟩ ?_
    refine pj_J.ite (fun hc21 => ?_) (fun hc21 => ?_)
    · skip
      refine pj_J.go (oX12_does G) 3 rfl trivial ?_
      refine pj_J.go1 (pc := 31) (oX12_does G) rfl (po_getD (lo := 5) (hi := 17) (k := 3) (n := 34) (by exact ha) (by decide) (by rfl)) trivial ?_
      refine pj_J.go (oX12_does G) 1 rfl trivial ?_
      refine pj_J.ite (fun hc34 => ?_) (fun hc34 => ?_)
      · skip
        refine pj_J.go (oX12_does G) 5 rfl trivial ?_
        refine pj_J.go1 (pc := 47) (oX12_does G) rfl (po_getD (lo := 5) (hi := 17) (k := 1) (n := 50) (by exact ha) (by decide) (by rfl)) trivial ?_
        refine pj_J.go (oX12_does G) 3 rfl trivial ?_
        refine pj_J.go1 (pc := 55) (oX12_does G) rfl (po_getD (lo := 5) (hi := 17) (k := 1) (n := 58) (by exact ha) (by decide) (by rfl)) trivial ?_
        refine pj_J.go (oX12_does G) 4 rfl ⟨by exact hs, trivial⟩ ?_
        refine pj_J.go1 (pc := 64) (oX12_does G) rfl (po_getD (lo := 5) (hi := 17) (k := 2) (n := 67) (by exact ha) (by decide) (by rfl)) trivial ?_
        refine pj_J.go (oX12_does G) 6 rfl ⟨by exact ht, trivial⟩ ?_
        refine pj_J.go1 (pc := 75) (oX12_does G) rfl (po_getD (lo := 5) (hi := 17) (k := 2) (n := 78) (by exact ha) (by decide) (by rfl)) trivial ?_
        refine pj_J.go (oX12_does G) 5 rfl ⟨by exact ht, trivial⟩ ?_
        refine pj_J.go1 (pc := 85) (oX12_does G) rfl (po_getD (lo := 5) (hi := 17) (k := 1) (n := 88) (by exact ha) (by decide) (by rfl)) trivial ?_
        refine pj_J.go (oX12_does G) 6 rfl ⟨by exact hs, trivial⟩ ?_
        refine pj_J.go1 (pc := 96) (oX12_does G) rfl (po_getD (lo := 5) (hi := 17) (k := 1) (n := 99) (by exact ha) (by decide) (by rfl)) trivial ?_
        refine pj_J.go (oX12_does G) 4 rfl ⟨by exact hs, trivial⟩ ?_
        refine pj_J.go1 (pc := 105) (oX12_does G) rfl (po_getD (lo := 5) (hi := 17) (k := 2) (n := 108) (by exact ha) (by decide) (by rfl)) trivial ?_
        refine pj_J.go (oX12_does G) 2 rfl ⟨by exact ht, trivial⟩ ?_
        refine pj_J.cal0 kX12_does_110 (c_X2_put_0 (c := c) s (((sx_L (sx_R c 0) 0 s.toNatClampNeg) * (sx_L (sx_R c 0) 1 t.toNatClampNeg)) + (((1 : Int64) * (sx_L (sx_R c 0) 0 t.toNatClampNeg)) * (sx_L (sx_R c 0) 1 s.toNatClampNeg))) ((sx_L (sx_R c 0) 1 s.toNatClampNeg) * (sx_L (sx_R c 0) 1 t.toNatClampNeg)) hs (hO.1 hc9 hc21 hc34) (hO.2.1 hc9 hc21 hc34)) ⟨_, _, _, rfl, rfl⟩ pj_le0 pj_le0 pj_le0 ?_
        refine pj_J.go (oX12_does G) 3 rfl trivial ?_
        refine pj_J.ite (fun hc117 => ?_) (fun hc117 => ?_)
        · skip
          refine pj_J.go (oX12_does G) 3 rfl trivial ?_
          refine pj_J.cal0 kX12_does_123 (c_X6_show_0 (c := (sx_sR c 0 ((fr_put (sx_R c 0) s (((sx_L (sx_R c 0) 0 s.toNatClampNeg) * (sx_L (sx_R c 0) 1 t.toNatClampNeg)) + (((1 : Int64) * (sx_L (sx_R c 0) 0 t.toNatClampNeg)) * (sx_L (sx_R c 0) 1 s.toNatClampNeg))) ((sx_L (sx_R c 0) 1 s.toNatClampNeg) * (sx_L (sx_R c 0) 1 t.toNatClampNeg))).2))) ha (by decide) hs (0 : Int32)) ⟨_, _, _, rfl, ha⟩ pj_le0 pj_le0 pj_le0 ?_
          refine pj_J.go (oX12_does G) 1 rfl trivial ?_
          refine pj_iret dX12_does_128 rfl ?_
          show _ = _ ∧ _ = _
          have e : fa_added c.1 (sx_R c 0) s t v = ((fr_put (sx_R c 0) s (((sx_L (sx_R c 0) 0 s.toNatClampNeg) * (sx_L (sx_R c 0) 1 t.toNatClampNeg)) + (((1 : Int64) * (sx_L (sx_R c 0) 0 t.toNatClampNeg)) * (sx_L (sx_R c 0) 1 s.toNatClampNeg))) ((sx_L (sx_R c 0) 1 s.toNatClampNeg) * (sx_L (sx_R c 0) 1 t.toNatClampNeg))).1, (fr_show ((fr_put (sx_R c 0) s (((sx_L (sx_R c 0) 0 s.toNatClampNeg) * (sx_L (sx_R c 0) 1 t.toNatClampNeg)) + (((1 : Int64) * (sx_L (sx_R c 0) 0 t.toNatClampNeg)) * (sx_L (sx_R c 0) 1 s.toNatClampNeg))) ((sx_L (sx_R c 0) 1 s.toNatClampNeg) * (sx_L (sx_R c 0) 1 t.toNatClampNeg))).2) s (0 : Int32))) := by unfold fa_added; rw [if_pos (show (sx_I (sx_R c 0) 2 s.toNatClampNeg) = (0 : Int32) from hc9), if_pos (show (sx_I (sx_R c 0) 2 t.toNatClampNeg) = (0 : Int32) from hc21), if_pos (show v = (0 : Int32) from hc34), if_pos (show (fr_put (sx_R c 0) s (((sx_L (sx_R c 0) 0 s.toNatClampNeg) * (sx_L (sx_R c 0) 1 t.toNatClampNeg)) + (((1 : Int64) * (sx_L (sx_R c 0) 0 t.toNatClampNeg)) * (sx_L (sx_R c 0) 1 s.toNatClampNeg))) ((sx_L (sx_R c 0) 1 s.toNatClampNeg) * (sx_L (sx_R c 0) 1 t.toNatClampNeg))).1 = (0 : Int32) from hc117)]
          rw [e]
          try dsimp only
          exact ⟨rfl, rfl⟩
        · skip
          refine pj_J.go (oX12_does G) 1 rfl trivial ?_
          refine pj_iret dX12_does_128 rfl ?_
          show _ = _ ∧ _ = _
          have e : fa_added c.1 (sx_R c 0) s t v = ((fr_put (sx_R c 0) s (((sx_L (sx_R c 0) 0 s.toNatClampNeg) * (sx_L (sx_R c 0) 1 t.toNatClampNeg)) + (((1 : Int64) * (sx_L (sx_R c 0) 0 t.toNatClampNeg)) * (sx_L (sx_R c 0) 1 s.toNatClampNeg))) ((sx_L (sx_R c 0) 1 s.toNatClampNeg) * (sx_L (sx_R c 0) 1 t.toNatClampNeg))).1, ((fr_put (sx_R c 0) s (((sx_L (sx_R c 0) 0 s.toNatClampNeg) * (sx_L (sx_R c 0) 1 t.toNatClampNeg)) + (((1 : Int64) * (sx_L (sx_R c 0) 0 t.toNatClampNeg)) * (sx_L (sx_R c 0) 1 s.toNatClampNeg))) ((sx_L (sx_R c 0) 1 s.toNatClampNeg) * (sx_L (sx_R c 0) 1 t.toNatClampNeg))).2)) := by unfold fa_added; rw [if_pos (show (sx_I (sx_R c 0) 2 s.toNatClampNeg) = (0 : Int32) from hc9), if_pos (show (sx_I (sx_R c 0) 2 t.toNatClampNeg) = (0 : Int32) from hc21), if_pos (show v = (0 : Int32) from hc34), if_neg (show ¬ ((fr_put (sx_R c 0) s (((sx_L (sx_R c 0) 0 s.toNatClampNeg) * (sx_L (sx_R c 0) 1 t.toNatClampNeg)) + (((1 : Int64) * (sx_L (sx_R c 0) 0 t.toNatClampNeg)) * (sx_L (sx_R c 0) 1 s.toNatClampNeg))) ((sx_L (sx_R c 0) 1 s.toNatClampNeg) * (sx_L (sx_R c 0) 1 t.toNatClampNeg))).1 = (0 : Int32)) from hc117)]
          rw [e]
          try dsimp only
          exact ⟨rfl, rfl⟩
      · skip
        refine pj_J.go (oX12_does G) 4 rfl trivial ?_
        refine pj_J.go1 (pc := 47) (oX12_does G) rfl (po_getD (lo := 5) (hi := 17) (k := 1) (n := 50) (by exact ha) (by decide) (by rfl)) trivial ?_
        refine pj_J.go (oX12_does G) 3 rfl trivial ?_
        refine pj_J.go1 (pc := 55) (oX12_does G) rfl (po_getD (lo := 5) (hi := 17) (k := 1) (n := 58) (by exact ha) (by decide) (by rfl)) trivial ?_
        refine pj_J.go (oX12_does G) 4 rfl ⟨by exact hs, trivial⟩ ?_
        refine pj_J.go1 (pc := 64) (oX12_does G) rfl (po_getD (lo := 5) (hi := 17) (k := 2) (n := 67) (by exact ha) (by decide) (by rfl)) trivial ?_
        refine pj_J.go (oX12_does G) 6 rfl ⟨by exact ht, trivial⟩ ?_
        refine pj_J.go1 (pc := 75) (oX12_does G) rfl (po_getD (lo := 5) (hi := 17) (k := 2) (n := 78) (by exact ha) (by decide) (by rfl)) trivial ?_
        refine pj_J.go (oX12_does G) 5 rfl ⟨by exact ht, trivial⟩ ?_
        refine pj_J.go1 (pc := 85) (oX12_does G) rfl (po_getD (lo := 5) (hi := 17) (k := 1) (n := 88) (by exact ha) (by decide) (by rfl)) trivial ?_
        refine pj_J.go (oX12_does G) 6 rfl ⟨by exact hs, trivial⟩ ?_
        refine pj_J.go1 (pc := 96) (oX12_does G) rfl (po_getD (lo := 5) (hi := 17) (k := 1) (n := 99) (by exact ha) (by decide) (by rfl)) trivial ?_
        refine pj_J.go (oX12_does G) 4 rfl ⟨by exact hs, trivial⟩ ?_
        refine pj_J.go1 (pc := 105) (oX12_does G) rfl (po_getD (lo := 5) (hi := 17) (k := 2) (n := 108) (by exact ha) (by decide) (by rfl)) trivial ?_
        refine pj_J.go (oX12_does G) 2 rfl ⟨by exact ht, trivial⟩ ?_
        refine pj_J.cal0 kX12_does_110 (c_X2_put_0 (c := c) s (((sx_L (sx_R c 0) 0 s.toNatClampNeg) * (sx_L (sx_R c 0) 1 t.toNatClampNeg)) + (((-1 : Int64) * (sx_L (sx_R c 0) 0 t.toNatClampNeg)) * (sx_L (sx_R c 0) 1 s.toNatClampNeg))) ((sx_L (sx_R c 0) 1 s.toNatClampNeg) * (sx_L (sx_R c 0) 1 t.toNatClampNeg)) hs (hO.2.2.1 hc9 hc21 hc34) (hO.2.2.2.1 hc9 hc21 hc34)) ⟨_, _, _, rfl, rfl⟩ pj_le0 pj_le0 pj_le0 ?_
        refine pj_J.go (oX12_does G) 3 rfl trivial ?_
        refine pj_J.ite (fun hc117 => ?_) (fun hc117 => ?_)
        · skip
          refine pj_J.go (oX12_does G) 3 rfl trivial ?_
          refine pj_J.cal0 kX12_does_123 (c_X6_show_0 (c := (sx_sR c 0 ((fr_put (sx_R c 0) s (((sx_L (sx_R c 0) 0 s.toNatClampNeg) * (sx_L (sx_R c 0) 1 t.toNatClampNeg)) + (((-1 : Int64) * (sx_L (sx_R c 0) 0 t.toNatClampNeg)) * (sx_L (sx_R c 0) 1 s.toNatClampNeg))) ((sx_L (sx_R c 0) 1 s.toNatClampNeg) * (sx_L (sx_R c 0) 1 t.toNatClampNeg))).2))) ha (by decide) hs (0 : Int32)) ⟨_, _, _, rfl, ha⟩ pj_le0 pj_le0 pj_le0 ?_
          refine pj_J.go (oX12_does G) 1 rfl trivial ?_
          refine pj_iret dX12_does_128 rfl ?_
          show _ = _ ∧ _ = _
          have e : fa_added c.1 (sx_R c 0) s t v = ((fr_put (sx_R c 0) s (((sx_L (sx_R c 0) 0 s.toNatClampNeg) * (sx_L (sx_R c 0) 1 t.toNatClampNeg)) + (((-1 : Int64) * (sx_L (sx_R c 0) 0 t.toNatClampNeg)) * (sx_L (sx_R c 0) 1 s.toNatClampNeg))) ((sx_L (sx_R c 0) 1 s.toNatClampNeg) * (sx_L (sx_R c 0) 1 t.toNatClampNeg))).1, (fr_show ((fr_put (sx_R c 0) s (((sx_L (sx_R c 0) 0 s.toNatClampNeg) * (sx_L (sx_R c 0) 1 t.toNatClampNeg)) + (((-1 : Int64) * (sx_L (sx_R c 0) 0 t.toNatClampNeg)) * (sx_L (sx_R c 0) 1 s.toNatClampNeg))) ((sx_L (sx_R c 0) 1 s.toNatClampNeg) * (sx_L (sx_R c 0) 1 t.toNatClampNeg))).2) s (0 : Int32))) := by unfold fa_added; rw [if_pos (show (sx_I (sx_R c 0) 2 s.toNatClampNeg) = (0 : Int32) from hc9), if_pos (show (sx_I (sx_R c 0) 2 t.toNatClampNeg) = (0 : Int32) from hc21), if_neg (show ¬ (v = (0 : Int32)) from hc34), if_pos (show (fr_put (sx_R c 0) s (((sx_L (sx_R c 0) 0 s.toNatClampNeg) * (sx_L (sx_R c 0) 1 t.toNatClampNeg)) + (((-1 : Int64) * (sx_L (sx_R c 0) 0 t.toNatClampNeg)) * (sx_L (sx_R c 0) 1 s.toNatClampNeg))) ((sx_L (sx_R c 0) 1 s.toNatClampNeg) * (sx_L (sx_R c 0) 1 t.toNatClampNeg))).1 = (0 : Int32) from hc117)]
          rw [e]
          try dsimp only
          exact ⟨rfl, rfl⟩
        · skip
          refine pj_J.go (oX12_does G) 1 rfl trivial ?_
          refine pj_iret dX12_does_128 rfl ?_
          show _ = _ ∧ _ = _
          have e : fa_added c.1 (sx_R c 0) s t v = ((fr_put (sx_R c 0) s (((sx_L (sx_R c 0) 0 s.toNatClampNeg) * (sx_L (sx_R c 0) 1 t.toNatClampNeg)) + (((-1 : Int64) * (sx_L (sx_R c 0) 0 t.toNatClampNeg)) * (sx_L (sx_R c 0) 1 s.toNatClampNeg))) ((sx_L (sx_R c 0) 1 s.toNatClampNeg) * (sx_L (sx_R c 0) 1 t.toNatClampNeg))).1, ((fr_put (sx_R c 0) s (((sx_L (sx_R c 0) 0 s.toNatClampNeg) * (sx_L (sx_R c 0) 1 t.toNatClampNeg)) + (((-1 : Int64) * (sx_L (sx_R c 0) 0 t.toNatClampNeg)) * (sx_L (sx_R c 0) 1 s.toNatClampNeg))) ((sx_L (sx_R c 0) 1 s.toNatClampNeg) * (sx_L (sx_R c 0) 1 t.toNatClampNeg))).2)) := by unfold fa_added; rw [if_pos (show (sx_I (sx_R c 0) 2 s.toNatClampNeg) = (0 : Int32) from hc9), if_pos (show (sx_I (sx_R c 0) 2 t.toNatClampNeg) = (0 : Int32) from hc21), if_neg (show ¬ (v = (0 : Int32)) from hc34), if_neg (show ¬ ((fr_put (sx_R c 0) s (((sx_L (sx_R c 0) 0 s.toNatClampNeg) * (sx_L (sx_R c 0) 1 t.toNatClampNeg)) + (((-1 : Int64) * (sx_L (sx_R c 0) 0 t.toNatClampNeg)) * (sx_L (sx_R c 0) 1 s.toNatClampNeg))) ((sx_L (sx_R c 0) 1 s.toNatClampNeg) * (sx_L (sx_R c 0) 1 t.toNatClampNeg))).1 = (0 : Int32)) from hc117)]
          rw [e]
          try dsimp only
          exact ⟨rfl, rfl⟩
    · skip
      refine pj_J.go (oX12_does G) 4 rfl trivial ?_
      refine pj_J.go1 (pc := 31) (oX12_does G) rfl (po_getD (lo := 5) (hi := 17) (k := 3) (n := 34) (by exact ha) (by decide) (by rfl)) trivial ?_
      refine pj_J.go (oX12_does G) 1 rfl trivial ?_
      refine pj_J.ite (fun hc34 => ?_) (fun hc34 => ?_)
      · skip
        refine pj_J.go (oX12_does G) 5 rfl trivial ?_
        refine pj_J.go1 (pc := 47) (oX12_does G) rfl (po_getD (lo := 5) (hi := 17) (k := 1) (n := 50) (by exact ha) (by decide) (by rfl)) trivial ?_
        refine pj_J.go (oX12_does G) 3 rfl trivial ?_
        refine pj_J.go1 (pc := 55) (oX12_does G) rfl (po_getD (lo := 5) (hi := 17) (k := 1) (n := 58) (by exact ha) (by decide) (by rfl)) trivial ?_
        refine pj_J.go (oX12_does G) 4 rfl ⟨by exact hs, trivial⟩ ?_
        refine pj_J.go1 (pc := 64) (oX12_does G) rfl (po_getD (lo := 5) (hi := 17) (k := 2) (n := 67) (by exact ha) (by decide) (by rfl)) trivial ?_
        refine pj_J.go (oX12_does G) 6 rfl ⟨by exact ht, trivial⟩ ?_
        refine pj_J.go1 (pc := 75) (oX12_does G) rfl (po_getD (lo := 5) (hi := 17) (k := 2) (n := 78) (by exact ha) (by decide) (by rfl)) trivial ?_
        refine pj_J.go (oX12_does G) 5 rfl ⟨by exact ht, trivial⟩ ?_
        refine pj_J.go1 (pc := 85) (oX12_does G) rfl (po_getD (lo := 5) (hi := 17) (k := 1) (n := 88) (by exact ha) (by decide) (by rfl)) trivial ?_
        refine pj_J.go (oX12_does G) 6 rfl ⟨by exact hs, trivial⟩ ?_
        refine pj_J.go1 (pc := 96) (oX12_does G) rfl (po_getD (lo := 5) (hi := 17) (k := 1) (n := 99) (by exact ha) (by decide) (by rfl)) trivial ?_
        refine pj_J.go (oX12_does G) 4 rfl ⟨by exact hs, trivial⟩ ?_
        refine pj_J.go1 (pc := 105) (oX12_does G) rfl (po_getD (lo := 5) (hi := 17) (k := 2) (n := 108) (by exact ha) (by decide) (by rfl)) trivial ?_
        refine pj_J.go (oX12_does G) 2 rfl ⟨by exact ht, trivial⟩ ?_
        refine pj_J.cal0 kX12_does_110 (c_X2_put_0 (c := c) s (((sx_L (sx_R c 0) 0 s.toNatClampNeg) * (sx_L (sx_R c 0) 1 t.toNatClampNeg)) + (((1 : Int64) * (sx_L (sx_R c 0) 0 t.toNatClampNeg)) * (sx_L (sx_R c 0) 1 s.toNatClampNeg))) ((sx_L (sx_R c 0) 1 s.toNatClampNeg) * (sx_L (sx_R c 0) 1 t.toNatClampNeg)) hs (hO.2.2.2.2.1 hc9 hc21 hc34) (hO.2.2.2.2.2.1 hc9 hc21 hc34)) ⟨_, _, _, rfl, rfl⟩ pj_le0 pj_le0 pj_le0 ?_
        refine pj_J.go (oX12_does G) 3 rfl trivial ?_
        refine pj_J.ite (fun hc117 => ?_) (fun hc117 => ?_)
        · skip
          refine pj_J.go (oX12_does G) 3 rfl trivial ?_
          refine pj_J.cal0 kX12_does_123 (c_X6_show_0 (c := (sx_sR c 0 ((fr_put (sx_R c 0) s (((sx_L (sx_R c 0) 0 s.toNatClampNeg) * (sx_L (sx_R c 0) 1 t.toNatClampNeg)) + (((1 : Int64) * (sx_L (sx_R c 0) 0 t.toNatClampNeg)) * (sx_L (sx_R c 0) 1 s.toNatClampNeg))) ((sx_L (sx_R c 0) 1 s.toNatClampNeg) * (sx_L (sx_R c 0) 1 t.toNatClampNeg))).2))) ha (by decide) hs (1 : Int32)) ⟨_, _, _, rfl, ha⟩ pj_le0 pj_le0 pj_le0 ?_
          refine pj_J.go (oX12_does G) 1 rfl trivial ?_
          refine pj_iret dX12_does_128 rfl ?_
          show _ = _ ∧ _ = _
          have e : fa_added c.1 (sx_R c 0) s t v = ((fr_put (sx_R c 0) s (((sx_L (sx_R c 0) 0 s.toNatClampNeg) * (sx_L (sx_R c 0) 1 t.toNatClampNeg)) + (((1 : Int64) * (sx_L (sx_R c 0) 0 t.toNatClampNeg)) * (sx_L (sx_R c 0) 1 s.toNatClampNeg))) ((sx_L (sx_R c 0) 1 s.toNatClampNeg) * (sx_L (sx_R c 0) 1 t.toNatClampNeg))).1, (fr_show ((fr_put (sx_R c 0) s (((sx_L (sx_R c 0) 0 s.toNatClampNeg) * (sx_L (sx_R c 0) 1 t.toNatClampNeg)) + (((1 : Int64) * (sx_L (sx_R c 0) 0 t.toNatClampNeg)) * (sx_L (sx_R c 0) 1 s.toNatClampNeg))) ((sx_L (sx_R c 0) 1 s.toNatClampNeg) * (sx_L (sx_R c 0) 1 t.toNatClampNeg))).2) s (1 : Int32))) := by unfold fa_added; rw [if_pos (show (sx_I (sx_R c 0) 2 s.toNatClampNeg) = (0 : Int32) from hc9), if_neg (show ¬ ((sx_I (sx_R c 0) 2 t.toNatClampNeg) = (0 : Int32)) from hc21), if_pos (show v = (0 : Int32) from hc34), if_pos (show (fr_put (sx_R c 0) s (((sx_L (sx_R c 0) 0 s.toNatClampNeg) * (sx_L (sx_R c 0) 1 t.toNatClampNeg)) + (((1 : Int64) * (sx_L (sx_R c 0) 0 t.toNatClampNeg)) * (sx_L (sx_R c 0) 1 s.toNatClampNeg))) ((sx_L (sx_R c 0) 1 s.toNatClampNeg) * (sx_L (sx_R c 0) 1 t.toNatClampNeg))).1 = (0 : Int32) from hc117)]
          rw [e]
          try dsimp only
          exact ⟨rfl, rfl⟩
        · skip
          refine pj_J.go (oX12_does G) 1 rfl trivial ?_
          refine pj_iret dX12_does_128 rfl ?_
          show _ = _ ∧ _ = _
          have e : fa_added c.1 (sx_R c 0) s t v = ((fr_put (sx_R c 0) s (((sx_L (sx_R c 0) 0 s.toNatClampNeg) * (sx_L (sx_R c 0) 1 t.toNatClampNeg)) + (((1 : Int64) * (sx_L (sx_R c 0) 0 t.toNatClampNeg)) * (sx_L (sx_R c 0) 1 s.toNatClampNeg))) ((sx_L (sx_R c 0) 1 s.toNatClampNeg) * (sx_L (sx_R c 0) 1 t.toNatClampNeg))).1, ((fr_put (sx_R c 0) s (((sx_L (sx_R c 0) 0 s.toNatClampNeg) * (sx_L (sx_R c 0) 1 t.toNatClampNeg)) + (((1 : Int64) * (sx_L (sx_R c 0) 0 t.toNatClampNeg)) * (sx_L (sx_R c 0) 1 s.toNatClampNeg))) ((sx_L (sx_R c 0) 1 s.toNatClampNeg) * (sx_L (sx_R c 0) 1 t.toNatClampNeg))).2)) := by unfold fa_added; rw [if_pos (show (sx_I (sx_R c 0) 2 s.toNatClampNeg) = (0 : Int32) from hc9), if_neg (show ¬ ((sx_I (sx_R c 0) 2 t.toNatClampNeg) = (0 : Int32)) from hc21), if_pos (show v = (0 : Int32) from hc34), if_neg (show ¬ ((fr_put (sx_R c 0) s (((sx_L (sx_R c 0) 0 s.toNatClampNeg) * (sx_L (sx_R c 0) 1 t.toNatClampNeg)) + (((1 : Int64) * (sx_L (sx_R c 0) 0 t.toNatClampNeg)) * (sx_L (sx_R c 0) 1 s.toNatClampNeg))) ((sx_L (sx_R c 0) 1 s.toNatClampNeg) * (sx_L (sx_R c 0) 1 t.toNatClampNeg))).1 = (0 : Int32)) from hc117)]
          rw [e]
          try dsimp only
          exact ⟨rfl, rfl⟩
      · skip
        refine pj_J.go (oX12_does G) 4 rfl trivial ?_
        refine pj_J.go1 (pc := 47) (oX12_does G) rfl (po_getD (lo := 5) (hi := 17) (k := 1) (n := 50) (by exact ha) (by decide) (by rfl)) trivial ?_
        refine pj_J.go (oX12_does G) 3 rfl trivial ?_
        refine pj_J.go1 (pc := 55) (oX12_does G) rfl (po_getD (lo := 5) (hi := 17) (k := 1) (n := 58) (by exact ha) (by decide) (by rfl)) trivial ?_
        refine pj_J.go (oX12_does G) 4 rfl ⟨by exact hs, trivial⟩ ?_
        refine pj_J.go1 (pc := 64) (oX12_does G) rfl (po_getD (lo := 5) (hi := 17) (k := 2) (n := 67) (by exact ha) (by decide) (by rfl)) trivial ?_
        refine pj_J.go (oX12_does G) 6 rfl ⟨by exact ht, trivial⟩ ?_
        refine pj_J.go1 (pc := 75) (oX12_does G) rfl (po_getD (lo := 5) (hi := 17) (k := 2) (n := 78) (by exact ha) (by decide) (by rfl)) trivial ?_
        refine pj_J.go (oX12_does G) 5 rfl ⟨by exact ht, trivial⟩ ?_
        refine pj_J.go1 (pc := 85) (oX12_does G) rfl (po_getD (lo := 5) (hi := 17) (k := 1) (n := 88) (by exact ha) (by decide) (by rfl)) trivial ?_
        refine pj_J.go (oX12_does G) 6 rfl ⟨by exact hs, trivial⟩ ?_
        refine pj_J.go1 (pc := 96) (oX12_does G) rfl (po_getD (lo := 5) (hi := 17) (k := 1) (n := 99) (by exact ha) (by decide) (by rfl)) trivial ?_
        refine pj_J.go (oX12_does G) 4 rfl ⟨by exact hs, trivial⟩ ?_
        refine pj_J.go1 (pc := 105) (oX12_does G) rfl (po_getD (lo := 5) (hi := 17) (k := 2) (n := 108) (by exact ha) (by decide) (by rfl)) trivial ?_
        refine pj_J.go (oX12_does G) 2 rfl ⟨by exact ht, trivial⟩ ?_
        refine pj_J.cal0 kX12_does_110 (c_X2_put_0 (c := c) s (((sx_L (sx_R c 0) 0 s.toNatClampNeg) * (sx_L (sx_R c 0) 1 t.toNatClampNeg)) + (((-1 : Int64) * (sx_L (sx_R c 0) 0 t.toNatClampNeg)) * (sx_L (sx_R c 0) 1 s.toNatClampNeg))) ((sx_L (sx_R c 0) 1 s.toNatClampNeg) * (sx_L (sx_R c 0) 1 t.toNatClampNeg)) hs (hO.2.2.2.2.2.2.1 hc9 hc21 hc34) (hO.2.2.2.2.2.2.2.1 hc9 hc21 hc34)) ⟨_, _, _, rfl, rfl⟩ pj_le0 pj_le0 pj_le0 ?_
        refine pj_J.go (oX12_does G) 3 rfl trivial ?_
        refine pj_J.ite (fun hc117 => ?_) (fun hc117 => ?_)
        · skip
          refine pj_J.go (oX12_does G) 3 rfl trivial ?_
          refine pj_J.cal0 kX12_does_123 (c_X6_show_0 (c := (sx_sR c 0 ((fr_put (sx_R c 0) s (((sx_L (sx_R c 0) 0 s.toNatClampNeg) * (sx_L (sx_R c 0) 1 t.toNatClampNeg)) + (((-1 : Int64) * (sx_L (sx_R c 0) 0 t.toNatClampNeg)) * (sx_L (sx_R c 0) 1 s.toNatClampNeg))) ((sx_L (sx_R c 0) 1 s.toNatClampNeg) * (sx_L (sx_R c 0) 1 t.toNatClampNeg))).2))) ha (by decide) hs (1 : Int32)) ⟨_, _, _, rfl, ha⟩ pj_le0 pj_le0 pj_le0 ?_
          refine pj_J.go (oX12_does G) 1 rfl trivial ?_
          refine pj_iret dX12_does_128 rfl ?_
          show _ = _ ∧ _ = _
          have e : fa_added c.1 (sx_R c 0) s t v = ((fr_put (sx_R c 0) s (((sx_L (sx_R c 0) 0 s.toNatClampNeg) * (sx_L (sx_R c 0) 1 t.toNatClampNeg)) + (((-1 : Int64) * (sx_L (sx_R c 0) 0 t.toNatClampNeg)) * (sx_L (sx_R c 0) 1 s.toNatClampNeg))) ((sx_L (sx_R c 0) 1 s.toNatClampNeg) * (sx_L (sx_R c 0) 1 t.toNatClampNeg))).1, (fr_show ((fr_put (sx_R c 0) s (((sx_L (sx_R c 0) 0 s.toNatClampNeg) * (sx_L (sx_R c 0) 1 t.toNatClampNeg)) + (((-1 : Int64) * (sx_L (sx_R c 0) 0 t.toNatClampNeg)) * (sx_L (sx_R c 0) 1 s.toNatClampNeg))) ((sx_L (sx_R c 0) 1 s.toNatClampNeg) * (sx_L (sx_R c 0) 1 t.toNatClampNeg))).2) s (1 : Int32))) := by unfold fa_added; rw [if_pos (show (sx_I (sx_R c 0) 2 s.toNatClampNeg) = (0 : Int32) from hc9), if_neg (show ¬ ((sx_I (sx_R c 0) 2 t.toNatClampNeg) = (0 : Int32)) from hc21), if_neg (show ¬ (v = (0 : Int32)) from hc34), if_pos (show (fr_put (sx_R c 0) s (((sx_L (sx_R c 0) 0 s.toNatClampNeg) * (sx_L (sx_R c 0) 1 t.toNatClampNeg)) + (((-1 : Int64) * (sx_L (sx_R c 0) 0 t.toNatClampNeg)) * (sx_L (sx_R c 0) 1 s.toNatClampNeg))) ((sx_L (sx_R c 0) 1 s.toNatClampNeg) * (sx_L (sx_R c 0) 1 t.toNatClampNeg))).1 = (0 : Int32) from hc117)]
          rw [e]
          try dsimp only
          exact ⟨rfl, rfl⟩
        · skip
          refine pj_J.go (oX12_does G) 1 rfl trivial ?_
          refine pj_iret dX12_does_128 rfl ?_
          show _ = _ ∧ _ = _
          have e : fa_added c.1 (sx_R c 0) s t v = ((fr_put (sx_R c 0) s (((sx_L (sx_R c 0) 0 s.toNatClampNeg) * (sx_L (sx_R c 0) 1 t.toNatClampNeg)) + (((-1 : Int64) * (sx_L (sx_R c 0) 0 t.toNatClampNeg)) * (sx_L (sx_R c 0) 1 s.toNatClampNeg))) ((sx_L (sx_R c 0) 1 s.toNatClampNeg) * (sx_L (sx_R c 0) 1 t.toNatClampNeg))).1, ((fr_put (sx_R c 0) s (((sx_L (sx_R c 0) 0 s.toNatClampNeg) * (sx_L (sx_R c 0) 1 t.toNatClampNeg)) + (((-1 : Int64) * (sx_L (sx_R c 0) 0 t.toNatClampNeg)) * (sx_L (sx_R c 0) 1 s.toNatClampNeg))) ((sx_L (sx_R c 0) 1 s.toNatClampNeg) * (sx_L (sx_R c 0) 1 t.toNatClampNeg))).2)) := by unfold fa_added; rw [if_pos (show (sx_I (sx_R c 0) 2 s.toNatClampNeg) = (0 : Int32) from hc9), if_neg (show ¬ ((sx_I (sx_R c 0) 2 t.toNatClampNeg) = (0 : Int32)) from hc21), if_neg (show ¬ (v = (0 : Int32)) from hc34), if_neg (show ¬ ((fr_put (sx_R c 0) s (((sx_L (sx_R c 0) 0 s.toNatClampNeg) * (sx_L (sx_R c 0) 1 t.toNatClampNeg)) + (((-1 : Int64) * (sx_L (sx_R c 0) 0 t.toNatClampNeg)) * (sx_L (sx_R c 0) 1 s.toNatClampNeg))) ((sx_L (sx_R c 0) 1 s.toNatClampNeg) * (sx_L (sx_R c 0) 1 t.toNatClampNeg))).1 = (0 : Int32)) from hc117)]
          rw [e]
          try dsimp only
          exact ⟨rfl, rfl⟩
  · skip
    refine pj_J.go (oX12_does G) 4 rfl trivial ?_
    refine pj_J.go1 (pc := 31) (oX12_does G) rfl (po_getD (lo := 5) (hi := 17) (k := 3) (n := 34) (by exact ha) (by decide) (by rfl)) trivial ?_
    refine pj_J.go (oX12_does G) 1 rfl trivial ?_
    refine pj_J.ite (fun hc34 => ?_) (fun hc34 => ?_)
    · skip
      refine pj_J.go (oX12_does G) 5 rfl trivial ?_
      refine pj_J.go1 (pc := 47) (oX12_does G) rfl (po_getD (lo := 5) (hi := 17) (k := 1) (n := 50) (by exact ha) (by decide) (by rfl)) trivial ?_
      refine pj_J.go (oX12_does G) 3 rfl trivial ?_
      refine pj_J.go1 (pc := 55) (oX12_does G) rfl (po_getD (lo := 5) (hi := 17) (k := 1) (n := 58) (by exact ha) (by decide) (by rfl)) trivial ?_
      refine pj_J.go (oX12_does G) 4 rfl ⟨by exact hs, trivial⟩ ?_
      refine pj_J.go1 (pc := 64) (oX12_does G) rfl (po_getD (lo := 5) (hi := 17) (k := 2) (n := 67) (by exact ha) (by decide) (by rfl)) trivial ?_
      refine pj_J.go (oX12_does G) 6 rfl ⟨by exact ht, trivial⟩ ?_
      refine pj_J.go1 (pc := 75) (oX12_does G) rfl (po_getD (lo := 5) (hi := 17) (k := 2) (n := 78) (by exact ha) (by decide) (by rfl)) trivial ?_
      refine pj_J.go (oX12_does G) 5 rfl ⟨by exact ht, trivial⟩ ?_
      refine pj_J.go1 (pc := 85) (oX12_does G) rfl (po_getD (lo := 5) (hi := 17) (k := 1) (n := 88) (by exact ha) (by decide) (by rfl)) trivial ?_
      refine pj_J.go (oX12_does G) 6 rfl ⟨by exact hs, trivial⟩ ?_
      refine pj_J.go1 (pc := 96) (oX12_does G) rfl (po_getD (lo := 5) (hi := 17) (k := 1) (n := 99) (by exact ha) (by decide) (by rfl)) trivial ?_
      refine pj_J.go (oX12_does G) 4 rfl ⟨by exact hs, trivial⟩ ?_
      refine pj_J.go1 (pc := 105) (oX12_does G) rfl (po_getD (lo := 5) (hi := 17) (k := 2) (n := 108) (by exact ha) (by decide) (by rfl)) trivial ?_
      refine pj_J.go (oX12_does G) 2 rfl ⟨by exact ht, trivial⟩ ?_
      refine pj_J.cal0 kX12_does_110 (c_X2_put_0 (c := c) s (((sx_L (sx_R c 0) 0 s.toNatClampNeg) * (sx_L (sx_R c 0) 1 t.toNatClampNeg)) + (((1 : Int64) * (sx_L (sx_R c 0) 0 t.toNatClampNeg)) * (sx_L (sx_R c 0) 1 s.toNatClampNeg))) ((sx_L (sx_R c 0) 1 s.toNatClampNeg) * (sx_L (sx_R c 0) 1 t.toNatClampNeg)) hs (hO.2.2.2.2.2.2.2.2.1 hc9 hc34) (hO.2.2.2.2.2.2.2.2.2.1 hc9 hc34)) ⟨_, _, _, rfl, rfl⟩ pj_le0 pj_le0 pj_le0 ?_
      refine pj_J.go (oX12_does G) 3 rfl trivial ?_
      refine pj_J.ite (fun hc117 => ?_) (fun hc117 => ?_)
      · skip
        refine pj_J.go (oX12_does G) 3 rfl trivial ?_
        refine pj_J.cal0 kX12_does_123 (c_X6_show_0 (c := (sx_sR c 0 ((fr_put (sx_R c 0) s (((sx_L (sx_R c 0) 0 s.toNatClampNeg) * (sx_L (sx_R c 0) 1 t.toNatClampNeg)) + (((1 : Int64) * (sx_L (sx_R c 0) 0 t.toNatClampNeg)) * (sx_L (sx_R c 0) 1 s.toNatClampNeg))) ((sx_L (sx_R c 0) 1 s.toNatClampNeg) * (sx_L (sx_R c 0) 1 t.toNatClampNeg))).2))) ha (by decide) hs (1 : Int32)) ⟨_, _, _, rfl, ha⟩ pj_le0 pj_le0 pj_le0 ?_
        refine pj_J.go (oX12_does G) 1 rfl trivial ?_
        refine pj_iret dX12_does_128 rfl ?_
        show _ = _ ∧ _ = _
        have e : fa_added c.1 (sx_R c 0) s t v = ((fr_put (sx_R c 0) s (((sx_L (sx_R c 0) 0 s.toNatClampNeg) * (sx_L (sx_R c 0) 1 t.toNatClampNeg)) + (((1 : Int64) * (sx_L (sx_R c 0) 0 t.toNatClampNeg)) * (sx_L (sx_R c 0) 1 s.toNatClampNeg))) ((sx_L (sx_R c 0) 1 s.toNatClampNeg) * (sx_L (sx_R c 0) 1 t.toNatClampNeg))).1, (fr_show ((fr_put (sx_R c 0) s (((sx_L (sx_R c 0) 0 s.toNatClampNeg) * (sx_L (sx_R c 0) 1 t.toNatClampNeg)) + (((1 : Int64) * (sx_L (sx_R c 0) 0 t.toNatClampNeg)) * (sx_L (sx_R c 0) 1 s.toNatClampNeg))) ((sx_L (sx_R c 0) 1 s.toNatClampNeg) * (sx_L (sx_R c 0) 1 t.toNatClampNeg))).2) s (1 : Int32))) := by unfold fa_added; rw [if_neg (show ¬ ((sx_I (sx_R c 0) 2 s.toNatClampNeg) = (0 : Int32)) from hc9), if_pos (show v = (0 : Int32) from hc34), if_pos (show (fr_put (sx_R c 0) s (((sx_L (sx_R c 0) 0 s.toNatClampNeg) * (sx_L (sx_R c 0) 1 t.toNatClampNeg)) + (((1 : Int64) * (sx_L (sx_R c 0) 0 t.toNatClampNeg)) * (sx_L (sx_R c 0) 1 s.toNatClampNeg))) ((sx_L (sx_R c 0) 1 s.toNatClampNeg) * (sx_L (sx_R c 0) 1 t.toNatClampNeg))).1 = (0 : Int32) from hc117)]
        rw [e]
        try dsimp only
        exact ⟨rfl, rfl⟩
      · skip
        refine pj_J.go (oX12_does G) 1 rfl trivial ?_
        refine pj_iret dX12_does_128 rfl ?_
        show _ = _ ∧ _ = _
        have e : fa_added c.1 (sx_R c 0) s t v = ((fr_put (sx_R c 0) s (((sx_L (sx_R c 0) 0 s.toNatClampNeg) * (sx_L (sx_R c 0) 1 t.toNatClampNeg)) + (((1 : Int64) * (sx_L (sx_R c 0) 0 t.toNatClampNeg)) * (sx_L (sx_R c 0) 1 s.toNatClampNeg))) ((sx_L (sx_R c 0) 1 s.toNatClampNeg) * (sx_L (sx_R c 0) 1 t.toNatClampNeg))).1, ((fr_put (sx_R c 0) s (((sx_L (sx_R c 0) 0 s.toNatClampNeg) * (sx_L (sx_R c 0) 1 t.toNatClampNeg)) + (((1 : Int64) * (sx_L (sx_R c 0) 0 t.toNatClampNeg)) * (sx_L (sx_R c 0) 1 s.toNatClampNeg))) ((sx_L (sx_R c 0) 1 s.toNatClampNeg) * (sx_L (sx_R c 0) 1 t.toNatClampNeg))).2)) := by unfold fa_added; rw [if_neg (show ¬ ((sx_I (sx_R c 0) 2 s.toNatClampNeg) = (0 : Int32)) from hc9), if_pos (show v = (0 : Int32) from hc34), if_neg (show ¬ ((fr_put (sx_R c 0) s (((sx_L (sx_R c 0) 0 s.toNatClampNeg) * (sx_L (sx_R c 0) 1 t.toNatClampNeg)) + (((1 : Int64) * (sx_L (sx_R c 0) 0 t.toNatClampNeg)) * (sx_L (sx_R c 0) 1 s.toNatClampNeg))) ((sx_L (sx_R c 0) 1 s.toNatClampNeg) * (sx_L (sx_R c 0) 1 t.toNatClampNeg))).1 = (0 : Int32)) from hc117)]
        rw [e]
        try dsimp only
        exact ⟨rfl, rfl⟩
    · skip
      refine pj_J.go (oX12_does G) 4 rfl trivial ?_
      refine pj_J.go1 (pc := 47) (oX12_does G) rfl (po_getD (lo := 5) (hi := 17) (k := 1) (n := 50) (by exact ha) (by decide) (by rfl)) trivial ?_
      refine pj_J.go (oX12_does G) 3 rfl trivial ?_
      refine pj_J.go1 (pc := 55) (oX12_does G) rfl (po_getD (lo := 5) (hi := 17) (k := 1) (n := 58) (by exact ha) (by decide) (by rfl)) trivial ?_
      refine pj_J.go (oX12_does G) 4 rfl ⟨by exact hs, trivial⟩ ?_
      refine pj_J.go1 (pc := 64) (oX12_does G) rfl (po_getD (lo := 5) (hi := 17) (k := 2) (n := 67) (by exact ha) (by decide) (by rfl)) trivial ?_
      refine pj_J.go (oX12_does G) 6 rfl ⟨by exact ht, trivial⟩ ?_
      refine pj_J.go1 (pc := 75) (oX12_does G) rfl (po_getD (lo := 5) (hi := 17) (k := 2) (n := 78) (by exact ha) (by decide) (by rfl)) trivial ?_
      refine pj_J.go (oX12_does G) 5 rfl ⟨by exact ht, trivial⟩ ?_
      refine pj_J.go1 (pc := 85) (oX12_does G) rfl (po_getD (lo := 5) (hi := 17) (k := 1) (n := 88) (by exact ha) (by decide) (by rfl)) trivial ?_
      refine pj_J.go (oX12_does G) 6 rfl ⟨by exact hs, trivial⟩ ?_
      refine pj_J.go1 (pc := 96) (oX12_does G) rfl (po_getD (lo := 5) (hi := 17) (k := 1) (n := 99) (by exact ha) (by decide) (by rfl)) trivial ?_
      refine pj_J.go (oX12_does G) 4 rfl ⟨by exact hs, trivial⟩ ?_
      refine pj_J.go1 (pc := 105) (oX12_does G) rfl (po_getD (lo := 5) (hi := 17) (k := 2) (n := 108) (by exact ha) (by decide) (by rfl)) trivial ?_
      refine pj_J.go (oX12_does G) 2 rfl ⟨by exact ht, trivial⟩ ?_
      refine pj_J.cal0 kX12_does_110 (c_X2_put_0 (c := c) s (((sx_L (sx_R c 0) 0 s.toNatClampNeg) * (sx_L (sx_R c 0) 1 t.toNatClampNeg)) + (((-1 : Int64) * (sx_L (sx_R c 0) 0 t.toNatClampNeg)) * (sx_L (sx_R c 0) 1 s.toNatClampNeg))) ((sx_L (sx_R c 0) 1 s.toNatClampNeg) * (sx_L (sx_R c 0) 1 t.toNatClampNeg)) hs (hO.2.2.2.2.2.2.2.2.2.2.1 hc9 hc34) (hO.2.2.2.2.2.2.2.2.2.2.2.1 hc9 hc34)) ⟨_, _, _, rfl, rfl⟩ pj_le0 pj_le0 pj_le0 ?_
      refine pj_J.go (oX12_does G) 3 rfl trivial ?_
      refine pj_J.ite (fun hc117 => ?_) (fun hc117 => ?_)
      · skip
        refine pj_J.go (oX12_does G) 3 rfl trivial ?_
        refine pj_J.cal0 kX12_does_123 (c_X6_show_0 (c := (sx_sR c 0 ((fr_put (sx_R c 0) s (((sx_L (sx_R c 0) 0 s.toNatClampNeg) * (sx_L (sx_R c 0) 1 t.toNatClampNeg)) + (((-1 : Int64) * (sx_L (sx_R c 0) 0 t.toNatClampNeg)) * (sx_L (sx_R c 0) 1 s.toNatClampNeg))) ((sx_L (sx_R c 0) 1 s.toNatClampNeg) * (sx_L (sx_R c 0) 1 t.toNatClampNeg))).2))) ha (by decide) hs (1 : Int32)) ⟨_, _, _, rfl, ha⟩ pj_le0 pj_le0 pj_le0 ?_
        refine pj_J.go (oX12_does G) 1 rfl trivial ?_
        refine pj_iret dX12_does_128 rfl ?_
        show _ = _ ∧ _ = _
        have e : fa_added c.1 (sx_R c 0) s t v = ((fr_put (sx_R c 0) s (((sx_L (sx_R c 0) 0 s.toNatClampNeg) * (sx_L (sx_R c 0) 1 t.toNatClampNeg)) + (((-1 : Int64) * (sx_L (sx_R c 0) 0 t.toNatClampNeg)) * (sx_L (sx_R c 0) 1 s.toNatClampNeg))) ((sx_L (sx_R c 0) 1 s.toNatClampNeg) * (sx_L (sx_R c 0) 1 t.toNatClampNeg))).1, (fr_show ((fr_put (sx_R c 0) s (((sx_L (sx_R c 0) 0 s.toNatClampNeg) * (sx_L (sx_R c 0) 1 t.toNatClampNeg)) + (((-1 : Int64) * (sx_L (sx_R c 0) 0 t.toNatClampNeg)) * (sx_L (sx_R c 0) 1 s.toNatClampNeg))) ((sx_L (sx_R c 0) 1 s.toNatClampNeg) * (sx_L (sx_R c 0) 1 t.toNatClampNeg))).2) s (1 : Int32))) := by unfold fa_added; rw [if_neg (show ¬ ((sx_I (sx_R c 0) 2 s.toNatClampNeg) = (0 : Int32)) from hc9), if_neg (show ¬ (v = (0 : Int32)) from hc34), if_pos (show (fr_put (sx_R c 0) s (((sx_L (sx_R c 0) 0 s.toNatClampNeg) * (sx_L (sx_R c 0) 1 t.toNatClampNeg)) + (((-1 : Int64) * (sx_L (sx_R c 0) 0 t.toNatClampNeg)) * (sx_L (sx_R c 0) 1 s.toNatClampNeg))) ((sx_L (sx_R c 0) 1 s.toNatClampNeg) * (sx_L (sx_R c 0) 1 t.toNatClampNeg))).1 = (0 : Int32) from hc117)]
        rw [e]
        try dsimp only
        exact ⟨rfl, rfl⟩
      · skip
        refine pj_J.go (oX12_does G) 1 rfl trivial ?_
        refine pj_iret dX12_does_128 rfl ?_
        show _ = _ ∧ _ = _
        have e : fa_added c.1 (sx_R c 0) s t v = ((fr_put (sx_R c 0) s (((sx_L (sx_R c 0) 0 s.toNatClampNeg) * (sx_L (sx_R c 0) 1 t.toNatClampNeg)) + (((-1 : Int64) * (sx_L (sx_R c 0) 0 t.toNatClampNeg)) * (sx_L (sx_R c 0) 1 s.toNatClampNeg))) ((sx_L (sx_R c 0) 1 s.toNatClampNeg) * (sx_L (sx_R c 0) 1 t.toNatClampNeg))).1, ((fr_put (sx_R c 0) s (((sx_L (sx_R c 0) 0 s.toNatClampNeg) * (sx_L (sx_R c 0) 1 t.toNatClampNeg)) + (((-1 : Int64) * (sx_L (sx_R c 0) 0 t.toNatClampNeg)) * (sx_L (sx_R c 0) 1 s.toNatClampNeg))) ((sx_L (sx_R c 0) 1 s.toNatClampNeg) * (sx_L (sx_R c 0) 1 t.toNatClampNeg))).2)) := by unfold fa_added; rw [if_neg (show ¬ ((sx_I (sx_R c 0) 2 s.toNatClampNeg) = (0 : Int32)) from hc9), if_neg (show ¬ (v = (0 : Int32)) from hc34), if_neg (show ¬ ((fr_put (sx_R c 0) s (((sx_L (sx_R c 0) 0 s.toNatClampNeg) * (sx_L (sx_R c 0) 1 t.toNatClampNeg)) + (((-1 : Int64) * (sx_L (sx_R c 0) 0 t.toNatClampNeg)) * (sx_L (sx_R c 0) 1 s.toNatClampNeg))) ((sx_L (sx_R c 0) 1 s.toNatClampNeg) * (sx_L (sx_R c 0) 1 t.toNatClampNeg))).1 = (0 : Int32)) from hc117)]
        rw [e]
        try dsimp only
        exact ⟨rfl, rfl⟩
theorem c_X12_does_1 {G : pj_G} {d : Nat} {c : sx_C} {m : sx_M} {o : Nat → Int64} {D : pj_H} {i : Nat} {kd s t v : Int32} (ha : D[i]? = some (.inr (10, [.int kd, .int s, .int t, .int v]))) (hs : vp_in s 8) (ht : vp_in t 8) (hO : fa_added_ok c.1 (sx_R c 1) s t v) : pj_Rt G mX12_does (d + 3) [.ref (i + 98), .ref 21] (sx_mk c m o D) 0 0 (some (.int (fa_added c.1 (sx_R c 1) s t v).1)) (sx_mk (sx_sR c 1 ((fa_added c.1 (sx_R c 1) s t v).2)) m o D) := by
  refine pj_Cn.start ?_
  refine pj_J.go (oX12_does G) 3 rfl trivial ?_
  refine pj_J.go1 (pc := 5) (oX12_does G) rfl (po_getD (lo := 5) (hi := 17) (k := 1) (n := 8) (by exact ha) (by decide) (by rfl)) trivial ?_
  refine pj_J.go (oX12_does G) 2 rfl ⟨by exact hs, trivial⟩ ?_
  refine pj_J.ite (fun hc9 => ?_) (fun hc9 => ?_)
  · skip
    refine pj_J.go (oX12_does G) 3 rfl trivial ?_
    refine pj_J.go1 (pc := 17) (oX12_does G) rfl (po_getD (lo := 5) (hi := 17) (k := 2) (n := 20) (by exact ha) (by decide) (by rfl)) trivial ?_
    refine pj_J.go (oX12_does G) 2 rfl ⟨by exact ht, trivial⟩ ?_
    refine pj_J.ite (fun hc21 => ?_) (fun hc21 => ?_)
    · skip
      refine pj_J.go (oX12_does G) 3 rfl trivial ?_
      refine pj_J.go1 (pc := 31) (oX12_does G) rfl (po_getD (lo := 5) (hi := 17) (k := 3) (n := 34) (by exact ha) (by decide) (by rfl)) trivial ?_
      refine pj_J.go (oX12_does G) 1 rfl trivial ?_
      refine pj_J.ite (fun hc34 => ?_) (fun hc34 => ?_)
      · skip
        refine pj_J.go (oX12_does G) 5 rfl trivial ?_
        refine pj_J.go1 (pc := 47) (oX12_does G) rfl (po_getD (lo := 5) (hi := 17) (k := 1) (n := 50) (by exact ha) (by decide) (by rfl)) trivial ?_
        refine pj_J.go (oX12_does G) 3 rfl trivial ?_
        refine pj_J.go1 (pc := 55) (oX12_does G) rfl (po_getD (lo := 5) (hi := 17) (k := 1) (n := 58) (by exact ha) (by decide) (by rfl)) trivial ?_
        refine pj_J.go (oX12_does G) 4 rfl ⟨by exact hs, trivial⟩ ?_
        refine pj_J.go1 (pc := 64) (oX12_does G) rfl (po_getD (lo := 5) (hi := 17) (k := 2) (n := 67) (by exact ha) (by decide) (by rfl)) trivial ?_
        refine pj_J.go (oX12_does G) 6 rfl ⟨by exact ht, trivial⟩ ?_
        refine pj_J.go1 (pc := 75) (oX12_does G) rfl (po_getD (lo := 5) (hi := 17) (k := 2) (n := 78) (by exact ha) (by decide) (by rfl)) trivial ?_
        refine pj_J.go (oX12_does G) 5 rfl ⟨by exact ht, trivial⟩ ?_
        refine pj_J.go1 (pc := 85) (oX12_does G) rfl (po_getD (lo := 5) (hi := 17) (k := 1) (n := 88) (by exact ha) (by decide) (by rfl)) trivial ?_
        refine pj_J.go (oX12_does G) 6 rfl ⟨by exact hs, trivial⟩ ?_
        refine pj_J.go1 (pc := 96) (oX12_does G) rfl (po_getD (lo := 5) (hi := 17) (k := 1) (n := 99) (by exact ha) (by decide) (by rfl)) trivial ?_
        refine pj_J.go (oX12_does G) 4 rfl ⟨by exact hs, trivial⟩ ?_
        refine pj_J.go1 (pc := 105) (oX12_does G) rfl (po_getD (lo := 5) (hi := 17) (k := 2) (n := 108) (by exact ha) (by decide) (by rfl)) trivial ?_
        refine pj_J.go (oX12_does G) 2 rfl ⟨by exact ht, trivial⟩ ?_
        refine pj_J.cal0 kX12_does_110 (c_X2_put_1 (c := c) s (((sx_L (sx_R c 1) 0 s.toNatClampNeg) * (sx_L (sx_R c 1) 1 t.toNatClampNeg)) + (((1 : Int64) * (sx_L (sx_R c 1) 0 t.toNatClampNeg)) * (sx_L (sx_R c 1) 1 s.toNatClampNeg))) ((sx_L (sx_R c 1) 1 s.toNatClampNeg) * (sx_L (sx_R c 1) 1 t.toNatClampNeg)) hs (hO.1 hc9 hc21 hc34) (hO.2.1 hc9 hc21 hc34)) ⟨_, _, _, rfl, rfl⟩ pj_le0 pj_le0 pj_le0 ?_
        refine pj_J.go (oX12_does G) 3 rfl trivial ?_
        refine pj_J.ite (fun hc117 => ?_) (fun hc117 => ?_)
        · skip
          refine pj_J.go (oX12_does G) 3 rfl trivial ?_
          refine pj_J.cal0 kX12_does_123 (c_X6_show_1 (c := (sx_sR c 1 ((fr_put (sx_R c 1) s (((sx_L (sx_R c 1) 0 s.toNatClampNeg) * (sx_L (sx_R c 1) 1 t.toNatClampNeg)) + (((1 : Int64) * (sx_L (sx_R c 1) 0 t.toNatClampNeg)) * (sx_L (sx_R c 1) 1 s.toNatClampNeg))) ((sx_L (sx_R c 1) 1 s.toNatClampNeg) * (sx_L (sx_R c 1) 1 t.toNatClampNeg))).2))) ha (by decide) hs (0 : Int32)) ⟨_, _, _, rfl, ha⟩ pj_le0 pj_le0 pj_le0 ?_
          refine pj_J.go (oX12_does G) 1 rfl trivial ?_
          refine pj_iret dX12_does_128 rfl ?_
          show _ = _ ∧ _ = _
          have e : fa_added c.1 (sx_R c 1) s t v = ((fr_put (sx_R c 1) s (((sx_L (sx_R c 1) 0 s.toNatClampNeg) * (sx_L (sx_R c 1) 1 t.toNatClampNeg)) + (((1 : Int64) * (sx_L (sx_R c 1) 0 t.toNatClampNeg)) * (sx_L (sx_R c 1) 1 s.toNatClampNeg))) ((sx_L (sx_R c 1) 1 s.toNatClampNeg) * (sx_L (sx_R c 1) 1 t.toNatClampNeg))).1, (fr_show ((fr_put (sx_R c 1) s (((sx_L (sx_R c 1) 0 s.toNatClampNeg) * (sx_L (sx_R c 1) 1 t.toNatClampNeg)) + (((1 : Int64) * (sx_L (sx_R c 1) 0 t.toNatClampNeg)) * (sx_L (sx_R c 1) 1 s.toNatClampNeg))) ((sx_L (sx_R c 1) 1 s.toNatClampNeg) * (sx_L (sx_R c 1) 1 t.toNatClampNeg))).2) s (0 : Int32))) := by unfold fa_added; rw [if_pos (show (sx_I (sx_R c 1) 2 s.toNatClampNeg) = (0 : Int32) from hc9), if_pos (show (sx_I (sx_R c 1) 2 t.toNatClampNeg) = (0 : Int32) from hc21), if_pos (show v = (0 : Int32) from hc34), if_pos (show (fr_put (sx_R c 1) s (((sx_L (sx_R c 1) 0 s.toNatClampNeg) * (sx_L (sx_R c 1) 1 t.toNatClampNeg)) + (((1 : Int64) * (sx_L (sx_R c 1) 0 t.toNatClampNeg)) * (sx_L (sx_R c 1) 1 s.toNatClampNeg))) ((sx_L (sx_R c 1) 1 s.toNatClampNeg) * (sx_L (sx_R c 1) 1 t.toNatClampNeg))).1 = (0 : Int32) from hc117)]
          rw [e]
          try dsimp only
          exact ⟨rfl, rfl⟩
        · skip
          refine pj_J.go (oX12_does G) 1 rfl trivial ?_
          refine pj_iret dX12_does_128 rfl ?_
          show _ = _ ∧ _ = _
          have e : fa_added c.1 (sx_R c 1) s t v = ((fr_put (sx_R c 1) s (((sx_L (sx_R c 1) 0 s.toNatClampNeg) * (sx_L (sx_R c 1) 1 t.toNatClampNeg)) + (((1 : Int64) * (sx_L (sx_R c 1) 0 t.toNatClampNeg)) * (sx_L (sx_R c 1) 1 s.toNatClampNeg))) ((sx_L (sx_R c 1) 1 s.toNatClampNeg) * (sx_L (sx_R c 1) 1 t.toNatClampNeg))).1, ((fr_put (sx_R c 1) s (((sx_L (sx_R c 1) 0 s.toNatClampNeg) * (sx_L (sx_R c 1) 1 t.toNatClampNeg)) + (((1 : Int64) * (sx_L (sx_R c 1) 0 t.toNatClampNeg)) * (sx_L (sx_R c 1) 1 s.toNatClampNeg))) ((sx_L (sx_R c 1) 1 s.toNatClampNeg) * (sx_L (sx_R c 1) 1 t.toNatClampNeg))).2)) := by unfold fa_added; rw [if_pos (show (sx_I (sx_R c 1) 2 s.toNatClampNeg) = (0 : Int32) from hc9), if_pos (show (sx_I (sx_R c 1) 2 t.toNatClampNeg) = (0 : Int32) from hc21), if_pos (show v = (0 : Int32) from hc34), if_neg (show ¬ ((fr_put (sx_R c 1) s (((sx_L (sx_R c 1) 0 s.toNatClampNeg) * (sx_L (sx_R c 1) 1 t.toNatClampNeg)) + (((1 : Int64) * (sx_L (sx_R c 1) 0 t.toNatClampNeg)) * (sx_L (sx_R c 1) 1 s.toNatClampNeg))) ((sx_L (sx_R c 1) 1 s.toNatClampNeg) * (sx_L (sx_R c 1) 1 t.toNatClampNeg))).1 = (0 : Int32)) from hc117)]
          rw [e]
          try dsimp only
          exact ⟨rfl, rfl⟩
      · skip
        refine pj_J.go (oX12_does G) 4 rfl trivial ?_
        refine pj_J.go1 (pc := 47) (oX12_does G) rfl (po_getD (lo := 5) (hi := 17) (k := 1) (n := 50) (by exact ha) (by decide) (by rfl)) trivial ?_
        refine pj_J.go (oX12_does G) 3 rfl trivial ?_
        refine pj_J.go1 (pc := 55) (oX12_does G) rfl (po_getD (lo := 5) (hi := 17) (k := 1) (n := 58) (by exact ha) (by decide) (by rfl)) trivial ?_
        refine pj_J.go (oX12_does G) 4 rfl ⟨by exact hs, trivial⟩ ?_
        refine pj_J.go1 (pc := 64) (oX12_does G) rfl (po_getD (lo := 5) (hi := 17) (k := 2) (n := 67) (by exact ha) (by decide) (by rfl)) trivial ?_
        refine pj_J.go (oX12_does G) 6 rfl ⟨by exact ht, trivial⟩ ?_
        refine pj_J.go1 (pc := 75) (oX12_does G) rfl (po_getD (lo := 5) (hi := 17) (k := 2) (n := 78) (by exact ha) (by decide) (by rfl)) trivial ?_
        refine pj_J.go (oX12_does G) 5 rfl ⟨by exact ht, trivial⟩ ?_
        refine pj_J.go1 (pc := 85) (oX12_does G) rfl (po_getD (lo := 5) (hi := 17) (k := 1) (n := 88) (by exact ha) (by decide) (by rfl)) trivial ?_
        refine pj_J.go (oX12_does G) 6 rfl ⟨by exact hs, trivial⟩ ?_
        refine pj_J.go1 (pc := 96) (oX12_does G) rfl (po_getD (lo := 5) (hi := 17) (k := 1) (n := 99) (by exact ha) (by decide) (by rfl)) trivial ?_
        refine pj_J.go (oX12_does G) 4 rfl ⟨by exact hs, trivial⟩ ?_
        refine pj_J.go1 (pc := 105) (oX12_does G) rfl (po_getD (lo := 5) (hi := 17) (k := 2) (n := 108) (by exact ha) (by decide) (by rfl)) trivial ?_
        refine pj_J.go (oX12_does G) 2 rfl ⟨by exact ht, trivial⟩ ?_
        refine pj_J.cal0 kX12_does_110 (c_X2_put_1 (c := c) s (((sx_L (sx_R c 1) 0 s.toNatClampNeg) * (sx_L (sx_R c 1) 1 t.toNatClampNeg)) + (((-1 : Int64) * (sx_L (sx_R c 1) 0 t.toNatClampNeg)) * (sx_L (sx_R c 1) 1 s.toNatClampNeg))) ((sx_L (sx_R c 1) 1 s.toNatClampNeg) * (sx_L (sx_R c 1) 1 t.toNatClampNeg)) hs (hO.2.2.1 hc9 hc21 hc34) (hO.2.2.2.1 hc9 hc21 hc34)) ⟨_, _, _, rfl, rfl⟩ pj_le0 pj_le0 pj_le0 ?_
        refine pj_J.go (oX12_does G) 3 rfl trivial ?_
        refine pj_J.ite (fun hc117 => ?_) (fun hc117 => ?_)
        · skip
          refine pj_J.go (oX12_does G) 3 rfl trivial ?_
          refine pj_J.cal0 kX12_does_123 (c_X6_show_1 (c := (sx_sR c 1 ((fr_put (sx_R c 1) s (((sx_L (sx_R c 1) 0 s.toNatClampNeg) * (sx_L (sx_R c 1) 1 t.toNatClampNeg)) + (((-1 : Int64) * (sx_L (sx_R c 1) 0 t.toNatClampNeg)) * (sx_L (sx_R c 1) 1 s.toNatClampNeg))) ((sx_L (sx_R c 1) 1 s.toNatClampNeg) * (sx_L (sx_R c 1) 1 t.toNatClampNeg))).2))) ha (by decide) hs (0 : Int32)) ⟨_, _, _, rfl, ha⟩ pj_le0 pj_le0 pj_le0 ?_
          refine pj_J.go (oX12_does G) 1 rfl trivial ?_
          refine pj_iret dX12_does_128 rfl ?_
          show _ = _ ∧ _ = _
          have e : fa_added c.1 (sx_R c 1) s t v = ((fr_put (sx_R c 1) s (((sx_L (sx_R c 1) 0 s.toNatClampNeg) * (sx_L (sx_R c 1) 1 t.toNatClampNeg)) + (((-1 : Int64) * (sx_L (sx_R c 1) 0 t.toNatClampNeg)) * (sx_L (sx_R c 1) 1 s.toNatClampNeg))) ((sx_L (sx_R c 1) 1 s.toNatClampNeg) * (sx_L (sx_R c 1) 1 t.toNatClampNeg))).1, (fr_show ((fr_put (sx_R c 1) s (((sx_L (sx_R c 1) 0 s.toNatClampNeg) * (sx_L (sx_R c 1) 1 t.toNatClampNeg)) + (((-1 : Int64) * (sx_L (sx_R c 1) 0 t.toNatClampNeg)) * (sx_L (sx_R c 1) 1 s.toNatClampNeg))) ((sx_L (sx_R c 1) 1 s.toNatClampNeg) * (sx_L (sx_R c 1) 1 t.toNatClampNeg))).2) s (0 : Int32))) := by unfold fa_added; rw [if_pos (show (sx_I (sx_R c 1) 2 s.toNatClampNeg) = (0 : Int32) from hc9), if_pos (show (sx_I (sx_R c 1) 2 t.toNatClampNeg) = (0 : Int32) from hc21), if_neg (show ¬ (v = (0 : Int32)) from hc34), if_pos (show (fr_put (sx_R c 1) s (((sx_L (sx_R c 1) 0 s.toNatClampNeg) * (sx_L (sx_R c 1) 1 t.toNatClampNeg)) + (((-1 : Int64) * (sx_L (sx_R c 1) 0 t.toNatClampNeg)) * (sx_L (sx_R c 1) 1 s.toNatClampNeg))) ((sx_L (sx_R c 1) 1 s.toNatClampNeg) * (sx_L (sx_R c 1) 1 t.toNatClampNeg))).1 = (0 : Int32) from hc117)]
          rw [e]
          try dsimp only
          exact ⟨rfl, rfl⟩
        · skip
          refine pj_J.go (oX12_does G) 1 rfl trivial ?_
          refine pj_iret dX12_does_128 rfl ?_
          show _ = _ ∧ _ = _
          have e : fa_added c.1 (sx_R c 1) s t v = ((fr_put (sx_R c 1) s (((sx_L (sx_R c 1) 0 s.toNatClampNeg) * (sx_L (sx_R c 1) 1 t.toNatClampNeg)) + (((-1 : Int64) * (sx_L (sx_R c 1) 0 t.toNatClampNeg)) * (sx_L (sx_R c 1) 1 s.toNatClampNeg))) ((sx_L (sx_R c 1) 1 s.toNatClampNeg) * (sx_L (sx_R c 1) 1 t.toNatClampNeg))).1, ((fr_put (sx_R c 1) s (((sx_L (sx_R c 1) 0 s.toNatClampNeg) * (sx_L (sx_R c 1) 1 t.toNatClampNeg)) + (((-1 : Int64) * (sx_L (sx_R c 1) 0 t.toNatClampNeg)) * (sx_L (sx_R c 1) 1 s.toNatClampNeg))) ((sx_L (sx_R c 1) 1 s.toNatClampNeg) * (sx_L (sx_R c 1) 1 t.toNatClampNeg))).2)) := by unfold fa_added; rw [if_pos (show (sx_I (sx_R c 1) 2 s.toNatClampNeg) = (0 : Int32) from hc9), if_pos (show (sx_I (sx_R c 1) 2 t.toNatClampNeg) = (0 : Int32) from hc21), if_neg (show ¬ (v = (0 : Int32)) from hc34), if_neg (show ¬ ((fr_put (sx_R c 1) s (((sx_L (sx_R c 1) 0 s.toNatClampNeg) * (sx_L (sx_R c 1) 1 t.toNatClampNeg)) + (((-1 : Int64) * (sx_L (sx_R c 1) 0 t.toNatClampNeg)) * (sx_L (sx_R c 1) 1 s.toNatClampNeg))) ((sx_L (sx_R c 1) 1 s.toNatClampNeg) * (sx_L (sx_R c 1) 1 t.toNatClampNeg))).1 = (0 : Int32)) from hc117)]
          rw [e]
          try dsimp only
          exact ⟨rfl, rfl⟩
    · skip
      refine pj_J.go (oX12_does G) 4 rfl trivial ?_
      refine pj_J.go1 (pc := 31) (oX12_does G) rfl (po_getD (lo := 5) (hi := 17) (k := 3) (n := 34) (by exact ha) (by decide) (by rfl)) trivial ?_
      refine pj_J.go (oX12_does G) 1 rfl trivial ?_
      refine pj_J.ite (fun hc34 => ?_) (fun hc34 => ?_)
      · skip
        refine pj_J.go (oX12_does G) 5 rfl trivial ?_
        refine pj_J.go1 (pc := 47) (oX12_does G) rfl (po_getD (lo := 5) (hi := 17) (k := 1) (n := 50) (by exact ha) (by decide) (by rfl)) trivial ?_
        refine pj_J.go (oX12_does G) 3 rfl trivial ?_
        refine pj_J.go1 (pc := 55) (oX12_does G) rfl (po_getD (lo := 5) (hi := 17) (k := 1) (n := 58) (by exact ha) (by decide) (by rfl)) trivial ?_
        refine pj_J.go (oX12_does G) 4 rfl ⟨by exact hs, trivial⟩ ?_
        refine pj_J.go1 (pc := 64) (oX12_does G) rfl (po_getD (lo := 5) (hi := 17) (k := 2) (n := 67) (by exact ha) (by decide) (by rfl)) trivial ?_
        refine pj_J.go (oX12_does G) 6 rfl ⟨by exact ht, trivial⟩ ?_
        refine pj_J.go1 (pc := 75) (oX12_does G) rfl (po_getD (lo := 5) (hi := 17) (k := 2) (n := 78) (by exact ha) (by decide) (by rfl)) trivial ?_
        refine pj_J.go (oX12_does G) 5 rfl ⟨by exact ht, trivial⟩ ?_
        refine pj_J.go1 (pc := 85) (oX12_does G) rfl (po_getD (lo := 5) (hi := 17) (k := 1) (n := 88) (by exact ha) (by decide) (by rfl)) trivial ?_
        refine pj_J.go (oX12_does G) 6 rfl ⟨by exact hs, trivial⟩ ?_
        refine pj_J.go1 (pc := 96) (oX12_does G) rfl (po_getD (lo := 5) (hi := 17) (k := 1) (n := 99) (by exact ha) (by decide) (by rfl)) trivial ?_
        refine pj_J.go (oX12_does G) 4 rfl ⟨by exact hs, trivial⟩ ?_
        refine pj_J.go1 (pc := 105) (oX12_does G) rfl (po_getD (lo := 5) (hi := 17) (k := 2) (n := 108) (by exact ha) (by decide) (by rfl)) trivial ?_
        refine pj_J.go (oX12_does G) 2 rfl ⟨by exact ht, trivial⟩ ?_
        refine pj_J.cal0 kX12_does_110 (c_X2_put_1 (c := c) s (((sx_L (sx_R c 1) 0 s.toNatClampNeg) * (sx_L (sx_R c 1) 1 t.toNatClampNeg)) + (((1 : Int64) * (sx_L (sx_R c 1) 0 t.toNatClampNeg)) * (sx_L (sx_R c 1) 1 s.toNatClampNeg))) ((sx_L (sx_R c 1) 1 s.toNatClampNeg) * (sx_L (sx_R c 1) 1 t.toNatClampNeg)) hs (hO.2.2.2.2.1 hc9 hc21 hc34) (hO.2.2.2.2.2.1 hc9 hc21 hc34)) ⟨_, _, _, rfl, rfl⟩ pj_le0 pj_le0 pj_le0 ?_
        refine pj_J.go (oX12_does G) 3 rfl trivial ?_
        refine pj_J.ite (fun hc117 => ?_) (fun hc117 => ?_)
        · skip
          refine pj_J.go (oX12_does G) 3 rfl trivial ?_
          refine pj_J.cal0 kX12_does_123 (c_X6_show_1 (c := (sx_sR c 1 ((fr_put (sx_R c 1) s (((sx_L (sx_R c 1) 0 s.toNatClampNeg) * (sx_L (sx_R c 1) 1 t.toNatClampNeg)) + (((1 : Int64) * (sx_L (sx_R c 1) 0 t.toNatClampNeg)) * (sx_L (sx_R c 1) 1 s.toNatClampNeg))) ((sx_L (sx_R c 1) 1 s.toNatClampNeg) * (sx_L (sx_R c 1) 1 t.toNatClampNeg))).2))) ha (by decide) hs (1 : Int32)) ⟨_, _, _, rfl, ha⟩ pj_le0 pj_le0 pj_le0 ?_
          refine pj_J.go (oX12_does G) 1 rfl trivial ?_
          refine pj_iret dX12_does_128 rfl ?_
          show _ = _ ∧ _ = _
          have e : fa_added c.1 (sx_R c 1) s t v = ((fr_put (sx_R c 1) s (((sx_L (sx_R c 1) 0 s.toNatClampNeg) * (sx_L (sx_R c 1) 1 t.toNatClampNeg)) + (((1 : Int64) * (sx_L (sx_R c 1) 0 t.toNatClampNeg)) * (sx_L (sx_R c 1) 1 s.toNatClampNeg))) ((sx_L (sx_R c 1) 1 s.toNatClampNeg) * (sx_L (sx_R c 1) 1 t.toNatClampNeg))).1, (fr_show ((fr_put (sx_R c 1) s (((sx_L (sx_R c 1) 0 s.toNatClampNeg) * (sx_L (sx_R c 1) 1 t.toNatClampNeg)) + (((1 : Int64) * (sx_L (sx_R c 1) 0 t.toNatClampNeg)) * (sx_L (sx_R c 1) 1 s.toNatClampNeg))) ((sx_L (sx_R c 1) 1 s.toNatClampNeg) * (sx_L (sx_R c 1) 1 t.toNatClampNeg))).2) s (1 : Int32))) := by unfold fa_added; rw [if_pos (show (sx_I (sx_R c 1) 2 s.toNatClampNeg) = (0 : Int32) from hc9), if_neg (show ¬ ((sx_I (sx_R c 1) 2 t.toNatClampNeg) = (0 : Int32)) from hc21), if_pos (show v = (0 : Int32) from hc34), if_pos (show (fr_put (sx_R c 1) s (((sx_L (sx_R c 1) 0 s.toNatClampNeg) * (sx_L (sx_R c 1) 1 t.toNatClampNeg)) + (((1 : Int64) * (sx_L (sx_R c 1) 0 t.toNatClampNeg)) * (sx_L (sx_R c 1) 1 s.toNatClampNeg))) ((sx_L (sx_R c 1) 1 s.toNatClampNeg) * (sx_L (sx_R c 1) 1 t.toNatClampNeg))).1 = (0 : Int32) from hc117)]
          rw [e]
          try dsimp only
          exact ⟨rfl, rfl⟩
        · skip
          refine pj_J.go (oX12_does G) 1 rfl trivial ?_
          refine pj_iret dX12_does_128 rfl ?_
          show _ = _ ∧ _ = _
          have e : fa_added c.1 (sx_R c 1) s t v = ((fr_put (sx_R c 1) s (((sx_L (sx_R c 1) 0 s.toNatClampNeg) * (sx_L (sx_R c 1) 1 t.toNatClampNeg)) + (((1 : Int64) * (sx_L (sx_R c 1) 0 t.toNatClampNeg)) * (sx_L (sx_R c 1) 1 s.toNatClampNeg))) ((sx_L (sx_R c 1) 1 s.toNatClampNeg) * (sx_L (sx_R c 1) 1 t.toNatClampNeg))).1, ((fr_put (sx_R c 1) s (((sx_L (sx_R c 1) 0 s.toNatClampNeg) * (sx_L (sx_R c 1) 1 t.toNatClampNeg)) + (((1 : Int64) * (sx_L (sx_R c 1) 0 t.toNatClampNeg)) * (sx_L (sx_R c 1) 1 s.toNatClampNeg))) ((sx_L (sx_R c 1) 1 s.toNatClampNeg) * (sx_L (sx_R c 1) 1 t.toNatClampNeg))).2)) := by unfold fa_added; rw [if_pos (show (sx_I (sx_R c 1) 2 s.toNatClampNeg) = (0 : Int32) from hc9), if_neg (show ¬ ((sx_I (sx_R c 1) 2 t.toNatClampNeg) = (0 : Int32)) from hc21), if_pos (show v = (0 : Int32) from hc34), if_neg (show ¬ ((fr_put (sx_R c 1) s (((sx_L (sx_R c 1) 0 s.toNatClampNeg) * (sx_L (sx_R c 1) 1 t.toNatClampNeg)) + (((1 : Int64) * (sx_L (sx_R c 1) 0 t.toNatClampNeg)) * (sx_L (sx_R c 1) 1 s.toNatClampNeg))) ((sx_L (sx_R c 1) 1 s.toNatClampNeg) * (sx_L (sx_R c 1) 1 t.toNatClampNeg))).1 = (0 : Int32)) from hc117)]
          rw [e]
          try dsimp only
          exact ⟨rfl, rfl⟩
      · skip
        refine pj_J.go (oX12_does G) 4 rfl trivial ?_
        refine pj_J.go1 (pc := 47) (oX12_does G) rfl (po_getD (lo := 5) (hi := 17) (k := 1) (n := 50) (by exact ha) (by decide) (by rfl)) trivial ?_
        refine pj_J.go (oX12_does G) 3 rfl trivial ?_
        refine pj_J.go1 (pc := 55) (oX12_does G) rfl (po_getD (lo := 5) (hi := 17) (k := 1) (n := 58) (by exact ha) (by decide) (by rfl)) trivial ?_
        refine pj_J.go (oX12_does G) 4 rfl ⟨by exact hs, trivial⟩ ?_
        refine pj_J.go1 (pc := 64) (oX12_does G) rfl (po_getD (lo := 5) (hi := 17) (k := 2) (n := 67) (by exact ha) (by decide) (by rfl)) trivial ?_
        refine pj_J.go (oX12_does G) 6 rfl ⟨by exact ht, trivial⟩ ?_
        refine pj_J.go1 (pc := 75) (oX12_does G) rfl (po_getD (lo := 5) (hi := 17) (k := 2) (n := 78) (by exact ha) (by decide) (by rfl)) trivial ?_
        refine pj_J.go (oX12_does G) 5 rfl ⟨by exact ht, trivial⟩ ?_
        refine pj_J.go1 (pc := 85) (oX12_does G) rfl (po_getD (lo := 5) (hi := 17) (k := 1) (n := 88) (by exact ha) (by decide) (by rfl)) trivial ?_
        refine pj_J.go (oX12_does G) 6 rfl ⟨by exact hs, trivial⟩ ?_
        refine pj_J.go1 (pc := 96) (oX12_does G) rfl (po_getD (lo := 5) (hi := 17) (k := 1) (n := 99) (by exact ha) (by decide) (by rfl)) trivial ?_
        refine pj_J.go (oX12_does G) 4 rfl ⟨by exact hs, trivial⟩ ?_
        refine pj_J.go1 (pc := 105) (oX12_does G) rfl (po_getD (lo := 5) (hi := 17) (k := 2) (n := 108) (by exact ha) (by decide) (by rfl)) trivial ?_
        refine pj_J.go (oX12_does G) 2 rfl ⟨by exact ht, trivial⟩ ?_
        refine pj_J.cal0 kX12_does_110 (c_X2_put_1 (c := c) s (((sx_L (sx_R c 1) 0 s.toNatClampNeg) * (sx_L (sx_R c 1) 1 t.toNatClampNeg)) + (((-1 : Int64) * (sx_L (sx_R c 1) 0 t.toNatClampNeg)) * (sx_L (sx_R c 1) 1 s.toNatClampNeg))) ((sx_L (sx_R c 1) 1 s.toNatClampNeg) * (sx_L (sx_R c 1) 1 t.toNatClampNeg)) hs (hO.2.2.2.2.2.2.1 hc9 hc21 hc34) (hO.2.2.2.2.2.2.2.1 hc9 hc21 hc34)) ⟨_, _, _, rfl, rfl⟩ pj_le0 pj_le0 pj_le0 ?_
        refine pj_J.go (oX12_does G) 3 rfl trivial ?_
        refine pj_J.ite (fun hc117 => ?_) (fun hc117 => ?_)
        · skip
          refine pj_J.go (oX12_does G) 3 rfl trivial ?_
          refine pj_J.cal0 kX12_does_123 (c_X6_show_1 (c := (sx_sR c 1 ((fr_put (sx_R c 1) s (((sx_L (sx_R c 1) 0 s.toNatClampNeg) * (sx_L (sx_R c 1) 1 t.toNatClampNeg)) + (((-1 : Int64) * (sx_L (sx_R c 1) 0 t.toNatClampNeg)) * (sx_L (sx_R c 1) 1 s.toNatClampNeg))) ((sx_L (sx_R c 1) 1 s.toNatClampNeg) * (sx_L (sx_R c 1) 1 t.toNatClampNeg))).2))) ha (by decide) hs (1 : Int32)) ⟨_, _, _, rfl, ha⟩ pj_le0 pj_le0 pj_le0 ?_
          refine pj_J.go (oX12_does G) 1 rfl trivial ?_
          refine pj_iret dX12_does_128 rfl ?_
          show _ = _ ∧ _ = _
          have e : fa_added c.1 (sx_R c 1) s t v = ((fr_put (sx_R c 1) s (((sx_L (sx_R c 1) 0 s.toNatClampNeg) * (sx_L (sx_R c 1) 1 t.toNatClampNeg)) + (((-1 : Int64) * (sx_L (sx_R c 1) 0 t.toNatClampNeg)) * (sx_L (sx_R c 1) 1 s.toNatClampNeg))) ((sx_L (sx_R c 1) 1 s.toNatClampNeg) * (sx_L (sx_R c 1) 1 t.toNatClampNeg))).1, (fr_show ((fr_put (sx_R c 1) s (((sx_L (sx_R c 1) 0 s.toNatClampNeg) * (sx_L (sx_R c 1) 1 t.toNatClampNeg)) + (((-1 : Int64) * (sx_L (sx_R c 1) 0 t.toNatClampNeg)) * (sx_L (sx_R c 1) 1 s.toNatClampNeg))) ((sx_L (sx_R c 1) 1 s.toNatClampNeg) * (sx_L (sx_R c 1) 1 t.toNatClampNeg))).2) s (1 : Int32))) := by unfold fa_added; rw [if_pos (show (sx_I (sx_R c 1) 2 s.toNatClampNeg) = (0 : Int32) from hc9), if_neg (show ¬ ((sx_I (sx_R c 1) 2 t.toNatClampNeg) = (0 : Int32)) from hc21), if_neg (show ¬ (v = (0 : Int32)) from hc34), if_pos (show (fr_put (sx_R c 1) s (((sx_L (sx_R c 1) 0 s.toNatClampNeg) * (sx_L (sx_R c 1) 1 t.toNatClampNeg)) + (((-1 : Int64) * (sx_L (sx_R c 1) 0 t.toNatClampNeg)) * (sx_L (sx_R c 1) 1 s.toNatClampNeg))) ((sx_L (sx_R c 1) 1 s.toNatClampNeg) * (sx_L (sx_R c 1) 1 t.toNatClampNeg))).1 = (0 : Int32) from hc117)]
          rw [e]
          try dsimp only
          exact ⟨rfl, rfl⟩
        · skip
          refine pj_J.go (oX12_does G) 1 rfl trivial ?_
          refine pj_iret dX12_does_128 rfl ?_
          show _ = _ ∧ _ = _
          have e : fa_added c.1 (sx_R c 1) s t v = ((fr_put (sx_R c 1) s (((sx_L (sx_R c 1) 0 s.toNatClampNeg) * (sx_L (sx_R c 1) 1 t.toNatClampNeg)) + (((-1 : Int64) * (sx_L (sx_R c 1) 0 t.toNatClampNeg)) * (sx_L (sx_R c 1) 1 s.toNatClampNeg))) ((sx_L (sx_R c 1) 1 s.toNatClampNeg) * (sx_L (sx_R c 1) 1 t.toNatClampNeg))).1, ((fr_put (sx_R c 1) s (((sx_L (sx_R c 1) 0 s.toNatClampNeg) * (sx_L (sx_R c 1) 1 t.toNatClampNeg)) + (((-1 : Int64) * (sx_L (sx_R c 1) 0 t.toNatClampNeg)) * (sx_L (sx_R c 1) 1 s.toNatClampNeg))) ((sx_L (sx_R c 1) 1 s.toNatClampNeg) * (sx_L (sx_R c 1) 1 t.toNatClampNeg))).2)) := by unfold fa_added; rw [if_pos (show (sx_I (sx_R c 1) 2 s.toNatClampNeg) = (0 : Int32) from hc9), if_neg (show ¬ ((sx_I (sx_R c 1) 2 t.toNatClampNeg) = (0 : Int32)) from hc21), if_neg (show ¬ (v = (0 : Int32)) from hc34), if_neg (show ¬ ((fr_put (sx_R c 1) s (((sx_L (sx_R c 1) 0 s.toNatClampNeg) * (sx_L (sx_R c 1) 1 t.toNatClampNeg)) + (((-1 : Int64) * (sx_L (sx_R c 1) 0 t.toNatClampNeg)) * (sx_L (sx_R c 1) 1 s.toNatClampNeg))) ((sx_L (sx_R c 1) 1 s.toNatClampNeg) * (sx_L (sx_R c 1) 1 t.toNatClampNeg))).1 = (0 : Int32)) from hc117)]
          rw [e]
          try dsimp only
          exact ⟨rfl, rfl⟩
  · skip
    refine pj_J.go (oX12_does G) 4 rfl trivial ?_
    refine pj_J.go1 (pc := 31) (oX12_does G) rfl (po_getD (lo := 5) (hi := 17) (k := 3) (n := 34) (by exact ha) (by decide) (by rfl)) trivial ?_
    refine pj_J.go (oX12_does G) 1 rfl trivial ?_
    refine pj_J.ite (fun hc34 => ?_) (fun hc34 => ?_)
    · skip
      refine pj_J.go (oX12_does G) 5 rfl trivial ?_
      refine pj_J.go1 (pc := 47) (oX12_does G) rfl (po_getD (lo := 5) (hi := 17) (k := 1) (n := 50) (by exact ha) (by decide) (by rfl)) trivial ?_
      refine pj_J.go (oX12_does G) 3 rfl trivial ?_
      refine pj_J.go1 (pc := 55) (oX12_does G) rfl (po_getD (lo := 5) (hi := 17) (k := 1) (n := 58) (by exact ha) (by decide) (by rfl)) trivial ?_
      refine pj_J.go (oX12_does G) 4 rfl ⟨by exact hs, trivial⟩ ?_
      refine pj_J.go1 (pc := 64) (oX12_does G) rfl (po_getD (lo := 5) (hi := 17) (k := 2) (n := 67) (by exact ha) (by decide) (by rfl)) trivial ?_
      refine pj_J.go (oX12_does G) 6 rfl ⟨by exact ht, trivial⟩ ?_
      refine pj_J.go1 (pc := 75) (oX12_does G) rfl (po_getD (lo := 5) (hi := 17) (k := 2) (n := 78) (by exact ha) (by decide) (by rfl)) trivial ?_
      refine pj_J.go (oX12_does G) 5 rfl ⟨by exact ht, trivial⟩ ?_
      refine pj_J.go1 (pc := 85) (oX12_does G) rfl (po_getD (lo := 5) (hi := 17) (k := 1) (n := 88) (by exact ha) (by decide) (by rfl)) trivial ?_
      refine pj_J.go (oX12_does G) 6 rfl ⟨by exact hs, trivial⟩ ?_
      refine pj_J.go1 (pc := 96) (oX12_does G) rfl (po_getD (lo := 5) (hi := 17) (k := 1) (n := 99) (by exact ha) (by decide) (by rfl)) trivial ?_
      refine pj_J.go (oX12_does G) 4 rfl ⟨by exact hs, trivial⟩ ?_
      refine pj_J.go1 (pc := 105) (oX12_does G) rfl (po_getD (lo := 5) (hi := 17) (k := 2) (n := 108) (by exact ha) (by decide) (by rfl)) trivial ?_
      refine pj_J.go (oX12_does G) 2 rfl ⟨by exact ht, trivial⟩ ?_
      refine pj_J.cal0 kX12_does_110 (c_X2_put_1 (c := c) s (((sx_L (sx_R c 1) 0 s.toNatClampNeg) * (sx_L (sx_R c 1) 1 t.toNatClampNeg)) + (((1 : Int64) * (sx_L (sx_R c 1) 0 t.toNatClampNeg)) * (sx_L (sx_R c 1) 1 s.toNatClampNeg))) ((sx_L (sx_R c 1) 1 s.toNatClampNeg) * (sx_L (sx_R c 1) 1 t.toNatClampNeg)) hs (hO.2.2.2.2.2.2.2.2.1 hc9 hc34) (hO.2.2.2.2.2.2.2.2.2.1 hc9 hc34)) ⟨_, _, _, rfl, rfl⟩ pj_le0 pj_le0 pj_le0 ?_
      refine pj_J.go (oX12_does G) 3 rfl trivial ?_
      refine pj_J.ite (fun hc117 => ?_) (fun hc117 => ?_)
      · skip
        refine pj_J.go (oX12_does G) 3 rfl trivial ?_
        refine pj_J.cal0 kX12_does_123 (c_X6_show_1 (c := (sx_sR c 1 ((fr_put (sx_R c 1) s (((sx_L (sx_R c 1) 0 s.toNatClampNeg) * (sx_L (sx_R c 1) 1 t.toNatClampNeg)) + (((1 : Int64) * (sx_L (sx_R c 1) 0 t.toNatClampNeg)) * (sx_L (sx_R c 1) 1 s.toNatClampNeg))) ((sx_L (sx_R c 1) 1 s.toNatClampNeg) * (sx_L (sx_R c 1) 1 t.toNatClampNeg))).2))) ha (by decide) hs (1 : Int32)) ⟨_, _, _, rfl, ha⟩ pj_le0 pj_le0 pj_le0 ?_
        refine pj_J.go (oX12_does G) 1 rfl trivial ?_
        refine pj_iret dX12_does_128 rfl ?_
        show _ = _ ∧ _ = _
        have e : fa_added c.1 (sx_R c 1) s t v = ((fr_put (sx_R c 1) s (((sx_L (sx_R c 1) 0 s.toNatClampNeg) * (sx_L (sx_R c 1) 1 t.toNatClampNeg)) + (((1 : Int64) * (sx_L (sx_R c 1) 0 t.toNatClampNeg)) * (sx_L (sx_R c 1) 1 s.toNatClampNeg))) ((sx_L (sx_R c 1) 1 s.toNatClampNeg) * (sx_L (sx_R c 1) 1 t.toNatClampNeg))).1, (fr_show ((fr_put (sx_R c 1) s (((sx_L (sx_R c 1) 0 s.toNatClampNeg) * (sx_L (sx_R c 1) 1 t.toNatClampNeg)) + (((1 : Int64) * (sx_L (sx_R c 1) 0 t.toNatClampNeg)) * (sx_L (sx_R c 1) 1 s.toNatClampNeg))) ((sx_L (sx_R c 1) 1 s.toNatClampNeg) * (sx_L (sx_R c 1) 1 t.toNatClampNeg))).2) s (1 : Int32))) := by unfold fa_added; rw [if_neg (show ¬ ((sx_I (sx_R c 1) 2 s.toNatClampNeg) = (0 : Int32)) from hc9), if_pos (show v = (0 : Int32) from hc34), if_pos (show (fr_put (sx_R c 1) s (((sx_L (sx_R c 1) 0 s.toNatClampNeg) * (sx_L (sx_R c 1) 1 t.toNatClampNeg)) + (((1 : Int64) * (sx_L (sx_R c 1) 0 t.toNatClampNeg)) * (sx_L (sx_R c 1) 1 s.toNatClampNeg))) ((sx_L (sx_R c 1) 1 s.toNatClampNeg) * (sx_L (sx_R c 1) 1 t.toNatClampNeg))).1 = (0 : Int32) from hc117)]
        rw [e]
        try dsimp only
        exact ⟨rfl, rfl⟩
      · skip
        refine pj_J.go (oX12_does G) 1 rfl trivial ?_
        refine pj_iret dX12_does_128 rfl ?_
        show _ = _ ∧ _ = _
        have e : fa_added c.1 (sx_R c 1) s t v = ((fr_put (sx_R c 1) s (((sx_L (sx_R c 1) 0 s.toNatClampNeg) * (sx_L (sx_R c 1) 1 t.toNatClampNeg)) + (((1 : Int64) * (sx_L (sx_R c 1) 0 t.toNatClampNeg)) * (sx_L (sx_R c 1) 1 s.toNatClampNeg))) ((sx_L (sx_R c 1) 1 s.toNatClampNeg) * (sx_L (sx_R c 1) 1 t.toNatClampNeg))).1, ((fr_put (sx_R c 1) s (((sx_L (sx_R c 1) 0 s.toNatClampNeg) * (sx_L (sx_R c 1) 1 t.toNatClampNeg)) + (((1 : Int64) * (sx_L (sx_R c 1) 0 t.toNatClampNeg)) * (sx_L (sx_R c 1) 1 s.toNatClampNeg))) ((sx_L (sx_R c 1) 1 s.toNatClampNeg) * (sx_L (sx_R c 1) 1 t.toNatClampNeg))).2)) := by unfold fa_added; rw [if_neg (show ¬ ((sx_I (sx_R c 1) 2 s.toNatClampNeg) = (0 : Int32)) from hc9), if_pos (show v = (0 : Int32) from hc34), if_neg (show ¬ ((fr_put (sx_R c 1) s (((sx_L (sx_R c 1) 0 s.toNatClampNeg) * (sx_L (sx_R c 1) 1 t.toNatClampNeg)) + (((1 : Int64) * (sx_L (sx_R c 1) 0 t.toNatClampNeg)) * (sx_L (sx_R c 1) 1 s.toNatClampNeg))) ((sx_L (sx_R c 1) 1 s.toNatClampNeg) * (sx_L (sx_R c 1) 1 t.toNatClampNeg))).1 = (0 : Int32)) from hc117)]
        rw [e]
        try dsimp only
        exact ⟨rfl, rfl⟩
    · skip
      refine pj_J.go (oX12_does G) 4 rfl trivial ?_
      refine pj_J.go1 (pc := 47) (oX12_does G) rfl (po_getD (lo := 5) (hi := 17) (k := 1) (n := 50) (by exact ha) (by decide) (by rfl)) trivial ?_
      refine pj_J.go (oX12_does G) 3 rfl trivial ?_
      refine pj_J.go1 (pc := 55) (oX12_does G) rfl (po_getD (lo := 5) (hi := 17) (k := 1) (n := 58) (by exact ha) (by decide) (by rfl)) trivial ?_
      refine pj_J.go (oX12_does G) 4 rfl ⟨by exact hs, trivial⟩ ?_
      refine pj_J.go1 (pc := 64) (oX12_does G) rfl (po_getD (lo := 5) (hi := 17) (k := 2) (n := 67) (by exact ha) (by decide) (by rfl)) trivial ?_
      refine pj_J.go (oX12_does G) 6 rfl ⟨by exact ht, trivial⟩ ?_
      refine pj_J.go1 (pc := 75) (oX12_does G) rfl (po_getD (lo := 5) (hi := 17) (k := 2) (n := 78) (by exact ha) (by decide) (by rfl)) trivial ?_
      refine pj_J.go (oX12_does G) 5 rfl ⟨by exact ht, trivial⟩ ?_
      refine pj_J.go1 (pc := 85) (oX12_does G) rfl (po_getD (lo := 5) (hi := 17) (k := 1) (n := 88) (by exact ha) (by decide) (by rfl)) trivial ?_
      refine pj_J.go (oX12_does G) 6 rfl ⟨by exact hs, trivial⟩ ?_
      refine pj_J.go1 (pc := 96) (oX12_does G) rfl (po_getD (lo := 5) (hi := 17) (k := 1) (n := 99) (by exact ha) (by decide) (by rfl)) trivial ?_
      refine pj_J.go (oX12_does G) 4 rfl ⟨by exact hs, trivial⟩ ?_
      refine pj_J.go1 (pc := 105) (oX12_does G) rfl (po_getD (lo := 5) (hi := 17) (k := 2) (n := 108) (by exact ha) (by decide) (by rfl)) trivial ?_
      refine pj_J.go (oX12_does G) 2 rfl ⟨by exact ht, trivial⟩ ?_
      refine pj_J.cal0 kX12_does_110 (c_X2_put_1 (c := c) s (((sx_L (sx_R c 1) 0 s.toNatClampNeg) * (sx_L (sx_R c 1) 1 t.toNatClampNeg)) + (((-1 : Int64) * (sx_L (sx_R c 1) 0 t.toNatClampNeg)) * (sx_L (sx_R c 1) 1 s.toNatClampNeg))) ((sx_L (sx_R c 1) 1 s.toNatClampNeg) * (sx_L (sx_R c 1) 1 t.toNatClampNeg)) hs (hO.2.2.2.2.2.2.2.2.2.2.1 hc9 hc34) (hO.2.2.2.2.2.2.2.2.2.2.2.1 hc9 hc34)) ⟨_, _, _, rfl, rfl⟩ pj_le0 pj_le0 pj_le0 ?_
      refine pj_J.go (oX12_does G) 3 rfl trivial ?_
      refine pj_J.ite (fun hc117 => ?_) (fun hc117 => ?_)
      · skip
        refine pj_J.go (oX12_does G) 3 rfl trivial ?_
        refine pj_J.cal0 kX12_does_123 (c_X6_show_1 (c := (sx_sR c 1 ((fr_put (sx_R c 1) s (((sx_L (sx_R c 1) 0 s.toNatClampNeg) * (sx_L (sx_R c 1) 1 t.toNatClampNeg)) + (((-1 : Int64) * (sx_L (sx_R c 1) 0 t.toNatClampNeg)) * (sx_L (sx_R c 1) 1 s.toNatClampNeg))) ((sx_L (sx_R c 1) 1 s.toNatClampNeg) * (sx_L (sx_R c 1) 1 t.toNatClampNeg))).2))) ha (by decide) hs (1 : Int32)) ⟨_, _, _, rfl, ha⟩ pj_le0 pj_le0 pj_le0 ?_
        refine pj_J.go (oX12_does G) 1 rfl trivial ?_
        refine pj_iret dX12_does_128 rfl ?_
        show _ = _ ∧ _ = _
        have e : fa_added c.1 (sx_R c 1) s t v = ((fr_put (sx_R c 1) s (((sx_L (sx_R c 1) 0 s.toNatClampNeg) * (sx_L (sx_R c 1) 1 t.toNatClampNeg)) + (((-1 : Int64) * (sx_L (sx_R c 1) 0 t.toNatClampNeg)) * (sx_L (sx_R c 1) 1 s.toNatClampNeg))) ((sx_L (sx_R c 1) 1 s.toNatClampNeg) * (sx_L (sx_R c 1) 1 t.toNatClampNeg))).1, (fr_show ((fr_put (sx_R c 1) s (((sx_L (sx_R c 1) 0 s.toNatClampNeg) * (sx_L (sx_R c 1) 1 t.toNatClampNeg)) + (((-1 : Int64) * (sx_L (sx_R c 1) 0 t.toNatClampNeg)) * (sx_L (sx_R c 1) 1 s.toNatClampNeg))) ((sx_L (sx_R c 1) 1 s.toNatClampNeg) * (sx_L (sx_R c 1) 1 t.toNatClampNeg))).2) s (1 : Int32))) := by unfold fa_added; rw [if_neg (show ¬ ((sx_I (sx_R c 1) 2 s.toNatClampNeg) = (0 : Int32)) from hc9), if_neg (show ¬ (v = (0 : Int32)) from hc34), if_pos (show (fr_put (sx_R c 1) s (((sx_L (sx_R c 1) 0 s.toNatClampNeg) * (sx_L (sx_R c 1) 1 t.toNatClampNeg)) + (((-1 : Int64) * (sx_L (sx_R c 1) 0 t.toNatClampNeg)) * (sx_L (sx_R c 1) 1 s.toNatClampNeg))) ((sx_L (sx_R c 1) 1 s.toNatClampNeg) * (sx_L (sx_R c 1) 1 t.toNatClampNeg))).1 = (0 : Int32) from hc117)]
        rw [e]
        try dsimp only
        exact ⟨rfl, rfl⟩
      · skip
        refine pj_J.go (oX12_does G) 1 rfl trivial ?_
        refine pj_iret dX12_does_128 rfl ?_
        show _ = _ ∧ _ = _
        have e : fa_added c.1 (sx_R c 1) s t v = ((fr_put (sx_R c 1) s (((sx_L (sx_R c 1) 0 s.toNatClampNeg) * (sx_L (sx_R c 1) 1 t.toNatClampNeg)) + (((-1 : Int64) * (sx_L (sx_R c 1) 0 t.toNatClampNeg)) * (sx_L (sx_R c 1) 1 s.toNatClampNeg))) ((sx_L (sx_R c 1) 1 s.toNatClampNeg) * (sx_L (sx_R c 1) 1 t.toNatClampNeg))).1, ((fr_put (sx_R c 1) s (((sx_L (sx_R c 1) 0 s.toNatClampNeg) * (sx_L (sx_R c 1) 1 t.toNatClampNeg)) + (((-1 : Int64) * (sx_L (sx_R c 1) 0 t.toNatClampNeg)) * (sx_L (sx_R c 1) 1 s.toNatClampNeg))) ((sx_L (sx_R c 1) 1 s.toNatClampNeg) * (sx_L (sx_R c 1) 1 t.toNatClampNeg))).2)) := by unfold fa_added; rw [if_neg (show ¬ ((sx_I (sx_R c 1) 2 s.toNatClampNeg) = (0 : Int32)) from hc9), if_neg (show ¬ (v = (0 : Int32)) from hc34), if_neg (show ¬ ((fr_put (sx_R c 1) s (((sx_L (sx_R c 1) 0 s.toNatClampNeg) * (sx_L (sx_R c 1) 1 t.toNatClampNeg)) + (((-1 : Int64) * (sx_L (sx_R c 1) 0 t.toNatClampNeg)) * (sx_L (sx_R c 1) 1 s.toNatClampNeg))) ((sx_L (sx_R c 1) 1 s.toNatClampNeg) * (sx_L (sx_R c 1) 1 t.toNatClampNeg))).1 = (0 : Int32)) from hc117)]
        rw [e]
        try dsimp only
        exact ⟨rfl, rfl⟩
theorem c_X12_does_2 {G : pj_G} {d : Nat} {c : sx_C} {m : sx_M} {o : Nat → Int64} {D : pj_H} {i : Nat} {kd s t v : Int32} (ha : D[i]? = some (.inr (10, [.int kd, .int s, .int t, .int v]))) (hs : vp_in s 8) (ht : vp_in t 8) (hO : fa_added_ok c.1 (sx_R c 2) s t v) : pj_Rt G mX12_does (d + 3) [.ref (i + 98), .ref 32] (sx_mk c m o D) 0 0 (some (.int (fa_added c.1 (sx_R c 2) s t v).1)) (sx_mk (sx_sR c 2 ((fa_added c.1 (sx_R c 2) s t v).2)) m o D) := by
  refine pj_Cn.start ?_
  refine pj_J.go (oX12_does G) 3 rfl trivial ?_
  refine pj_J.go1 (pc := 5) (oX12_does G) rfl (po_getD (lo := 5) (hi := 17) (k := 1) (n := 8) (by exact ha) (by decide) (by rfl)) trivial ?_
  refine pj_J.go (oX12_does G) 2 rfl ⟨by exact hs, trivial⟩ ?_
  refine pj_J.ite (fun hc9 => ?_) (fun hc9 => ?_)
  · skip
    refine pj_J.go (oX12_does G) 3 rfl trivial ?_
    refine pj_J.go1 (pc := 17) (oX12_does G) rfl (po_getD (lo := 5) (hi := 17) (k := 2) (n := 20) (by exact ha) (by decide) (by rfl)) trivial ?_
    refine pj_J.go (oX12_does G) 2 rfl ⟨by exact ht, trivial⟩ ?_
    refine pj_J.ite (fun hc21 => ?_) (fun hc21 => ?_)
    · skip
      refine pj_J.go (oX12_does G) 3 rfl trivial ?_
      refine pj_J.go1 (pc := 31) (oX12_does G) rfl (po_getD (lo := 5) (hi := 17) (k := 3) (n := 34) (by exact ha) (by decide) (by rfl)) trivial ?_
      refine pj_J.go (oX12_does G) 1 rfl trivial ?_
      refine pj_J.ite (fun hc34 => ?_) (fun hc34 => ?_)
      · skip
        refine pj_J.go (oX12_does G) 5 rfl trivial ?_
        refine pj_J.go1 (pc := 47) (oX12_does G) rfl (po_getD (lo := 5) (hi := 17) (k := 1) (n := 50) (by exact ha) (by decide) (by rfl)) trivial ?_
        refine pj_J.go (oX12_does G) 3 rfl trivial ?_
        refine pj_J.go1 (pc := 55) (oX12_does G) rfl (po_getD (lo := 5) (hi := 17) (k := 1) (n := 58) (by exact ha) (by decide) (by rfl)) trivial ?_
        refine pj_J.go (oX12_does G) 4 rfl ⟨by exact hs, trivial⟩ ?_
        refine pj_J.go1 (pc := 64) (oX12_does G) rfl (po_getD (lo := 5) (hi := 17) (k := 2) (n := 67) (by exact ha) (by decide) (by rfl)) trivial ?_
        refine pj_J.go (oX12_does G) 6 rfl ⟨by exact ht, trivial⟩ ?_
        refine pj_J.go1 (pc := 75) (oX12_does G) rfl (po_getD (lo := 5) (hi := 17) (k := 2) (n := 78) (by exact ha) (by decide) (by rfl)) trivial ?_
        refine pj_J.go (oX12_does G) 5 rfl ⟨by exact ht, trivial⟩ ?_
        refine pj_J.go1 (pc := 85) (oX12_does G) rfl (po_getD (lo := 5) (hi := 17) (k := 1) (n := 88) (by exact ha) (by decide) (by rfl)) trivial ?_
        refine pj_J.go (oX12_does G) 6 rfl ⟨by exact hs, trivial⟩ ?_
        refine pj_J.go1 (pc := 96) (oX12_does G) rfl (po_getD (lo := 5) (hi := 17) (k := 1) (n := 99) (by exact ha) (by decide) (by rfl)) trivial ?_
        refine pj_J.go (oX12_does G) 4 rfl ⟨by exact hs, trivial⟩ ?_
        refine pj_J.go1 (pc := 105) (oX12_does G) rfl (po_getD (lo := 5) (hi := 17) (k := 2) (n := 108) (by exact ha) (by decide) (by rfl)) trivial ?_
        refine pj_J.go (oX12_does G) 2 rfl ⟨by exact ht, trivial⟩ ?_
        refine pj_J.cal0 kX12_does_110 (c_X2_put_2 (c := c) s (((sx_L (sx_R c 2) 0 s.toNatClampNeg) * (sx_L (sx_R c 2) 1 t.toNatClampNeg)) + (((1 : Int64) * (sx_L (sx_R c 2) 0 t.toNatClampNeg)) * (sx_L (sx_R c 2) 1 s.toNatClampNeg))) ((sx_L (sx_R c 2) 1 s.toNatClampNeg) * (sx_L (sx_R c 2) 1 t.toNatClampNeg)) hs (hO.1 hc9 hc21 hc34) (hO.2.1 hc9 hc21 hc34)) ⟨_, _, _, rfl, rfl⟩ pj_le0 pj_le0 pj_le0 ?_
        refine pj_J.go (oX12_does G) 3 rfl trivial ?_
        refine pj_J.ite (fun hc117 => ?_) (fun hc117 => ?_)
        · skip
          refine pj_J.go (oX12_does G) 3 rfl trivial ?_
          refine pj_J.cal0 kX12_does_123 (c_X6_show_2 (c := (sx_sR c 2 ((fr_put (sx_R c 2) s (((sx_L (sx_R c 2) 0 s.toNatClampNeg) * (sx_L (sx_R c 2) 1 t.toNatClampNeg)) + (((1 : Int64) * (sx_L (sx_R c 2) 0 t.toNatClampNeg)) * (sx_L (sx_R c 2) 1 s.toNatClampNeg))) ((sx_L (sx_R c 2) 1 s.toNatClampNeg) * (sx_L (sx_R c 2) 1 t.toNatClampNeg))).2))) ha (by decide) hs (0 : Int32)) ⟨_, _, _, rfl, ha⟩ pj_le0 pj_le0 pj_le0 ?_
          refine pj_J.go (oX12_does G) 1 rfl trivial ?_
          refine pj_iret dX12_does_128 rfl ?_
          show _ = _ ∧ _ = _
          have e : fa_added c.1 (sx_R c 2) s t v = ((fr_put (sx_R c 2) s (((sx_L (sx_R c 2) 0 s.toNatClampNeg) * (sx_L (sx_R c 2) 1 t.toNatClampNeg)) + (((1 : Int64) * (sx_L (sx_R c 2) 0 t.toNatClampNeg)) * (sx_L (sx_R c 2) 1 s.toNatClampNeg))) ((sx_L (sx_R c 2) 1 s.toNatClampNeg) * (sx_L (sx_R c 2) 1 t.toNatClampNeg))).1, (fr_show ((fr_put (sx_R c 2) s (((sx_L (sx_R c 2) 0 s.toNatClampNeg) * (sx_L (sx_R c 2) 1 t.toNatClampNeg)) + (((1 : Int64) * (sx_L (sx_R c 2) 0 t.toNatClampNeg)) * (sx_L (sx_R c 2) 1 s.toNatClampNeg))) ((sx_L (sx_R c 2) 1 s.toNatClampNeg) * (sx_L (sx_R c 2) 1 t.toNatClampNeg))).2) s (0 : Int32))) := by unfold fa_added; rw [if_pos (show (sx_I (sx_R c 2) 2 s.toNatClampNeg) = (0 : Int32) from hc9), if_pos (show (sx_I (sx_R c 2) 2 t.toNatClampNeg) = (0 : Int32) from hc21), if_pos (show v = (0 : Int32) from hc34), if_pos (show (fr_put (sx_R c 2) s (((sx_L (sx_R c 2) 0 s.toNatClampNeg) * (sx_L (sx_R c 2) 1 t.toNatClampNeg)) + (((1 : Int64) * (sx_L (sx_R c 2) 0 t.toNatClampNeg)) * (sx_L (sx_R c 2) 1 s.toNatClampNeg))) ((sx_L (sx_R c 2) 1 s.toNatClampNeg) * (sx_L (sx_R c 2) 1 t.toNatClampNeg))).1 = (0 : Int32) from hc117)]
          rw [e]
          try dsimp only
          exact ⟨rfl, rfl⟩
        · skip
          refine pj_J.go (oX12_does G) 1 rfl trivial ?_
          refine pj_iret dX12_does_128 rfl ?_
          show _ = _ ∧ _ = _
          have e : fa_added c.1 (sx_R c 2) s t v = ((fr_put (sx_R c 2) s (((sx_L (sx_R c 2) 0 s.toNatClampNeg) * (sx_L (sx_R c 2) 1 t.toNatClampNeg)) + (((1 : Int64) * (sx_L (sx_R c 2) 0 t.toNatClampNeg)) * (sx_L (sx_R c 2) 1 s.toNatClampNeg))) ((sx_L (sx_R c 2) 1 s.toNatClampNeg) * (sx_L (sx_R c 2) 1 t.toNatClampNeg))).1, ((fr_put (sx_R c 2) s (((sx_L (sx_R c 2) 0 s.toNatClampNeg) * (sx_L (sx_R c 2) 1 t.toNatClampNeg)) + (((1 : Int64) * (sx_L (sx_R c 2) 0 t.toNatClampNeg)) * (sx_L (sx_R c 2) 1 s.toNatClampNeg))) ((sx_L (sx_R c 2) 1 s.toNatClampNeg) * (sx_L (sx_R c 2) 1 t.toNatClampNeg))).2)) := by unfold fa_added; rw [if_pos (show (sx_I (sx_R c 2) 2 s.toNatClampNeg) = (0 : Int32) from hc9), if_pos (show (sx_I (sx_R c 2) 2 t.toNatClampNeg) = (0 : Int32) from hc21), if_pos (show v = (0 : Int32) from hc34), if_neg (show ¬ ((fr_put (sx_R c 2) s (((sx_L (sx_R c 2) 0 s.toNatClampNeg) * (sx_L (sx_R c 2) 1 t.toNatClampNeg)) + (((1 : Int64) * (sx_L (sx_R c 2) 0 t.toNatClampNeg)) * (sx_L (sx_R c 2) 1 s.toNatClampNeg))) ((sx_L (sx_R c 2) 1 s.toNatClampNeg) * (sx_L (sx_R c 2) 1 t.toNatClampNeg))).1 = (0 : Int32)) from hc117)]
          rw [e]
          try dsimp only
          exact ⟨rfl, rfl⟩
      · skip
        refine pj_J.go (oX12_does G) 4 rfl trivial ?_
        refine pj_J.go1 (pc := 47) (oX12_does G) rfl (po_getD (lo := 5) (hi := 17) (k := 1) (n := 50) (by exact ha) (by decide) (by rfl)) trivial ?_
        refine pj_J.go (oX12_does G) 3 rfl trivial ?_
        refine pj_J.go1 (pc := 55) (oX12_does G) rfl (po_getD (lo := 5) (hi := 17) (k := 1) (n := 58) (by exact ha) (by decide) (by rfl)) trivial ?_
        refine pj_J.go (oX12_does G) 4 rfl ⟨by exact hs, trivial⟩ ?_
        refine pj_J.go1 (pc := 64) (oX12_does G) rfl (po_getD (lo := 5) (hi := 17) (k := 2) (n := 67) (by exact ha) (by decide) (by rfl)) trivial ?_
        refine pj_J.go (oX12_does G) 6 rfl ⟨by exact ht, trivial⟩ ?_
        refine pj_J.go1 (pc := 75) (oX12_does G) rfl (po_getD (lo := 5) (hi := 17) (k := 2) (n := 78) (by exact ha) (by decide) (by rfl)) trivial ?_
        refine pj_J.go (oX12_does G) 5 rfl ⟨by exact ht, trivial⟩ ?_
        refine pj_J.go1 (pc := 85) (oX12_does G) rfl (po_getD (lo := 5) (hi := 17) (k := 1) (n := 88) (by exact ha) (by decide) (by rfl)) trivial ?_
        refine pj_J.go (oX12_does G) 6 rfl ⟨by exact hs, trivial⟩ ?_
        refine pj_J.go1 (pc := 96) (oX12_does G) rfl (po_getD (lo := 5) (hi := 17) (k := 1) (n := 99) (by exact ha) (by decide) (by rfl)) trivial ?_
        refine pj_J.go (oX12_does G) 4 rfl ⟨by exact hs, trivial⟩ ?_
        refine pj_J.go1 (pc := 105) (oX12_does G) rfl (po_getD (lo := 5) (hi := 17) (k := 2) (n := 108) (by exact ha) (by decide) (by rfl)) trivial ?_
        refine pj_J.go (oX12_does G) 2 rfl ⟨by exact ht, trivial⟩ ?_
        refine pj_J.cal0 kX12_does_110 (c_X2_put_2 (c := c) s (((sx_L (sx_R c 2) 0 s.toNatClampNeg) * (sx_L (sx_R c 2) 1 t.toNatClampNeg)) + (((-1 : Int64) * (sx_L (sx_R c 2) 0 t.toNatClampNeg)) * (sx_L (sx_R c 2) 1 s.toNatClampNeg))) ((sx_L (sx_R c 2) 1 s.toNatClampNeg) * (sx_L (sx_R c 2) 1 t.toNatClampNeg)) hs (hO.2.2.1 hc9 hc21 hc34) (hO.2.2.2.1 hc9 hc21 hc34)) ⟨_, _, _, rfl, rfl⟩ pj_le0 pj_le0 pj_le0 ?_
        refine pj_J.go (oX12_does G) 3 rfl trivial ?_
        refine pj_J.ite (fun hc117 => ?_) (fun hc117 => ?_)
        · skip
          refine pj_J.go (oX12_does G) 3 rfl trivial ?_
          refine pj_J.cal0 kX12_does_123 (c_X6_show_2 (c := (sx_sR c 2 ((fr_put (sx_R c 2) s (((sx_L (sx_R c 2) 0 s.toNatClampNeg) * (sx_L (sx_R c 2) 1 t.toNatClampNeg)) + (((-1 : Int64) * (sx_L (sx_R c 2) 0 t.toNatClampNeg)) * (sx_L (sx_R c 2) 1 s.toNatClampNeg))) ((sx_L (sx_R c 2) 1 s.toNatClampNeg) * (sx_L (sx_R c 2) 1 t.toNatClampNeg))).2))) ha (by decide) hs (0 : Int32)) ⟨_, _, _, rfl, ha⟩ pj_le0 pj_le0 pj_le0 ?_
          refine pj_J.go (oX12_does G) 1 rfl trivial ?_
          refine pj_iret dX12_does_128 rfl ?_
          show _ = _ ∧ _ = _
          have e : fa_added c.1 (sx_R c 2) s t v = ((fr_put (sx_R c 2) s (((sx_L (sx_R c 2) 0 s.toNatClampNeg) * (sx_L (sx_R c 2) 1 t.toNatClampNeg)) + (((-1 : Int64) * (sx_L (sx_R c 2) 0 t.toNatClampNeg)) * (sx_L (sx_R c 2) 1 s.toNatClampNeg))) ((sx_L (sx_R c 2) 1 s.toNatClampNeg) * (sx_L (sx_R c 2) 1 t.toNatClampNeg))).1, (fr_show ((fr_put (sx_R c 2) s (((sx_L (sx_R c 2) 0 s.toNatClampNeg) * (sx_L (sx_R c 2) 1 t.toNatClampNeg)) + (((-1 : Int64) * (sx_L (sx_R c 2) 0 t.toNatClampNeg)) * (sx_L (sx_R c 2) 1 s.toNatClampNeg))) ((sx_L (sx_R c 2) 1 s.toNatClampNeg) * (sx_L (sx_R c 2) 1 t.toNatClampNeg))).2) s (0 : Int32))) := by unfold fa_added; rw [if_pos (show (sx_I (sx_R c 2) 2 s.toNatClampNeg) = (0 : Int32) from hc9), if_pos (show (sx_I (sx_R c 2) 2 t.toNatClampNeg) = (0 : Int32) from hc21), if_neg (show ¬ (v = (0 : Int32)) from hc34), if_pos (show (fr_put (sx_R c 2) s (((sx_L (sx_R c 2) 0 s.toNatClampNeg) * (sx_L (sx_R c 2) 1 t.toNatClampNeg)) + (((-1 : Int64) * (sx_L (sx_R c 2) 0 t.toNatClampNeg)) * (sx_L (sx_R c 2) 1 s.toNatClampNeg))) ((sx_L (sx_R c 2) 1 s.toNatClampNeg) * (sx_L (sx_R c 2) 1 t.toNatClampNeg))).1 = (0 : Int32) from hc117)]
          rw [e]
          try dsimp only
          exact ⟨rfl, rfl⟩
        · skip
          refine pj_J.go (oX12_does G) 1 rfl trivial ?_
          refine pj_iret dX12_does_128 rfl ?_
          show _ = _ ∧ _ = _
          have e : fa_added c.1 (sx_R c 2) s t v = ((fr_put (sx_R c 2) s (((sx_L (sx_R c 2) 0 s.toNatClampNeg) * (sx_L (sx_R c 2) 1 t.toNatClampNeg)) + (((-1 : Int64) * (sx_L (sx_R c 2) 0 t.toNatClampNeg)) * (sx_L (sx_R c 2) 1 s.toNatClampNeg))) ((sx_L (sx_R c 2) 1 s.toNatClampNeg) * (sx_L (sx_R c 2) 1 t.toNatClampNeg))).1, ((fr_put (sx_R c 2) s (((sx_L (sx_R c 2) 0 s.toNatClampNeg) * (sx_L (sx_R c 2) 1 t.toNatClampNeg)) + (((-1 : Int64) * (sx_L (sx_R c 2) 0 t.toNatClampNeg)) * (sx_L (sx_R c 2) 1 s.toNatClampNeg))) ((sx_L (sx_R c 2) 1 s.toNatClampNeg) * (sx_L (sx_R c 2) 1 t.toNatClampNeg))).2)) := by unfold fa_added; rw [if_pos (show (sx_I (sx_R c 2) 2 s.toNatClampNeg) = (0 : Int32) from hc9), if_pos (show (sx_I (sx_R c 2) 2 t.toNatClampNeg) = (0 : Int32) from hc21), if_neg (show ¬ (v = (0 : Int32)) from hc34), if_neg (show ¬ ((fr_put (sx_R c 2) s (((sx_L (sx_R c 2) 0 s.toNatClampNeg) * (sx_L (sx_R c 2) 1 t.toNatClampNeg)) + (((-1 : Int64) * (sx_L (sx_R c 2) 0 t.toNatClampNeg)) * (sx_L (sx_R c 2) 1 s.toNatClampNeg))) ((sx_L (sx_R c 2) 1 s.toNatClampNeg) * (sx_L (sx_R c 2) 1 t.toNatClampNeg))).1 = (0 : Int32)) from hc117)]
          rw [e]
          try dsimp only
          exact ⟨rfl, rfl⟩
    · skip
      refine pj_J.go (oX12_does G) 4 rfl trivial ?_
      refine pj_J.go1 (pc := 31) (oX12_does G) rfl (po_getD (lo := 5) (hi := 17) (k := 3) (n := 34) (by exact ha) (by decide) (by rfl)) trivial ?_
      refine pj_J.go (oX12_does G) 1 rfl trivial ?_
      refine pj_J.ite (fun hc34 => ?_) (fun hc34 => ?_)
      · skip
        refine pj_J.go (oX12_does G) 5 rfl trivial ?_
        refine pj_J.go1 (pc := 47) (oX12_does G) rfl (po_getD (lo := 5) (hi := 17) (k := 1) (n := 50) (by exact ha) (by decide) (by rfl)) trivial ?_
        refine pj_J.go (oX12_does G) 3 rfl trivial ?_
        refine pj_J.go1 (pc := 55) (oX12_does G) rfl (po_getD (lo := 5) (hi := 17) (k := 1) (n := 58) (by exact ha) (by decide) (by rfl)) trivial ?_
        refine pj_J.go (oX12_does G) 4 rfl ⟨by exact hs, trivial⟩ ?_
        refine pj_J.go1 (pc := 64) (oX12_does G) rfl (po_getD (lo := 5) (hi := 17) (k := 2) (n := 67) (by exact ha) (by decide) (by rfl)) trivial ?_
        refine pj_J.go (oX12_does G) 6 rfl ⟨by exact ht, trivial⟩ ?_
        refine pj_J.go1 (pc := 75) (oX12_does G) rfl (po_getD (lo := 5) (hi := 17) (k := 2) (n := 78) (by exact ha) (by decide) (by rfl)) trivial ?_
        refine pj_J.go (oX12_does G) 5 rfl ⟨by exact ht, trivial⟩ ?_
        refine pj_J.go1 (pc := 85) (oX12_does G) rfl (po_getD (lo := 5) (hi := 17) (k := 1) (n := 88) (by exact ha) (by decide) (by rfl)) trivial ?_
        refine pj_J.go (oX12_does G) 6 rfl ⟨by exact hs, trivial⟩ ?_
        refine pj_J.go1 (pc := 96) (oX12_does G) rfl (po_getD (lo := 5) (hi := 17) (k := 1) (n := 99) (by exact ha) (by decide) (by rfl)) trivial ?_
        refine pj_J.go (oX12_does G) 4 rfl ⟨by exact hs, trivial⟩ ?_
        refine pj_J.go1 (pc := 105) (oX12_does G) rfl (po_getD (lo := 5) (hi := 17) (k := 2) (n := 108) (by exact ha) (by decide) (by rfl)) trivial ?_
        refine pj_J.go (oX12_does G) 2 rfl ⟨by exact ht, trivial⟩ ?_
        refine pj_J.cal0 kX12_does_110 (c_X2_put_2 (c := c) s (((sx_L (sx_R c 2) 0 s.toNatClampNeg) * (sx_L (sx_R c 2) 1 t.toNatClampNeg)) + (((1 : Int64) * (sx_L (sx_R c 2) 0 t.toNatClampNeg)) * (sx_L (sx_R c 2) 1 s.toNatClampNeg))) ((sx_L (sx_R c 2) 1 s.toNatClampNeg) * (sx_L (sx_R c 2) 1 t.toNatClampNeg)) hs (hO.2.2.2.2.1 hc9 hc21 hc34) (hO.2.2.2.2.2.1 hc9 hc21 hc34)) ⟨_, _, _, rfl, rfl⟩ pj_le0 pj_le0 pj_le0 ?_
        refine pj_J.go (oX12_does G) 3 rfl trivial ?_
        refine pj_J.ite (fun hc117 => ?_) (fun hc117 => ?_)
        · skip
          refine pj_J.go (oX12_does G) 3 rfl trivial ?_
          refine pj_J.cal0 kX12_does_123 (c_X6_show_2 (c := (sx_sR c 2 ((fr_put (sx_R c 2) s (((sx_L (sx_R c 2) 0 s.toNatClampNeg) * (sx_L (sx_R c 2) 1 t.toNatClampNeg)) + (((1 : Int64) * (sx_L (sx_R c 2) 0 t.toNatClampNeg)) * (sx_L (sx_R c 2) 1 s.toNatClampNeg))) ((sx_L (sx_R c 2) 1 s.toNatClampNeg) * (sx_L (sx_R c 2) 1 t.toNatClampNeg))).2))) ha (by decide) hs (1 : Int32)) ⟨_, _, _, rfl, ha⟩ pj_le0 pj_le0 pj_le0 ?_
          refine pj_J.go (oX12_does G) 1 rfl trivial ?_
          refine pj_iret dX12_does_128 rfl ?_
          show _ = _ ∧ _ = _
          have e : fa_added c.1 (sx_R c 2) s t v = ((fr_put (sx_R c 2) s (((sx_L (sx_R c 2) 0 s.toNatClampNeg) * (sx_L (sx_R c 2) 1 t.toNatClampNeg)) + (((1 : Int64) * (sx_L (sx_R c 2) 0 t.toNatClampNeg)) * (sx_L (sx_R c 2) 1 s.toNatClampNeg))) ((sx_L (sx_R c 2) 1 s.toNatClampNeg) * (sx_L (sx_R c 2) 1 t.toNatClampNeg))).1, (fr_show ((fr_put (sx_R c 2) s (((sx_L (sx_R c 2) 0 s.toNatClampNeg) * (sx_L (sx_R c 2) 1 t.toNatClampNeg)) + (((1 : Int64) * (sx_L (sx_R c 2) 0 t.toNatClampNeg)) * (sx_L (sx_R c 2) 1 s.toNatClampNeg))) ((sx_L (sx_R c 2) 1 s.toNatClampNeg) * (sx_L (sx_R c 2) 1 t.toNatClampNeg))).2) s (1 : Int32))) := by unfold fa_added; rw [if_pos (show (sx_I (sx_R c 2) 2 s.toNatClampNeg) = (0 : Int32) from hc9), if_neg (show ¬ ((sx_I (sx_R c 2) 2 t.toNatClampNeg) = (0 : Int32)) from hc21), if_pos (show v = (0 : Int32) from hc34), if_pos (show (fr_put (sx_R c 2) s (((sx_L (sx_R c 2) 0 s.toNatClampNeg) * (sx_L (sx_R c 2) 1 t.toNatClampNeg)) + (((1 : Int64) * (sx_L (sx_R c 2) 0 t.toNatClampNeg)) * (sx_L (sx_R c 2) 1 s.toNatClampNeg))) ((sx_L (sx_R c 2) 1 s.toNatClampNeg) * (sx_L (sx_R c 2) 1 t.toNatClampNeg))).1 = (0 : Int32) from hc117)]
          rw [e]
          try dsimp only
          exact ⟨rfl, rfl⟩
        · skip
          refine pj_J.go (oX12_does G) 1 rfl trivial ?_
          refine pj_iret dX12_does_128 rfl ?_
          show _ = _ ∧ _ = _
          have e : fa_added c.1 (sx_R c 2) s t v = ((fr_put (sx_R c 2) s (((sx_L (sx_R c 2) 0 s.toNatClampNeg) * (sx_L (sx_R c 2) 1 t.toNatClampNeg)) + (((1 : Int64) * (sx_L (sx_R c 2) 0 t.toNatClampNeg)) * (sx_L (sx_R c 2) 1 s.toNatClampNeg))) ((sx_L (sx_R c 2) 1 s.toNatClampNeg) * (sx_L (sx_R c 2) 1 t.toNatClampNeg))).1, ((fr_put (sx_R c 2) s (((sx_L (sx_R c 2) 0 s.toNatClampNeg) * (sx_L (sx_R c 2) 1 t.toNatClampNeg)) + (((1 : Int64) * (sx_L (sx_R c 2) 0 t.toNatClampNeg)) * (sx_L (sx_R c 2) 1 s.toNatClampNeg))) ((sx_L (sx_R c 2) 1 s.toNatClampNeg) * (sx_L (sx_R c 2) 1 t.toNatClampNeg))).2)) := by unfold fa_added; rw [if_pos (show (sx_I (sx_R c 2) 2 s.toNatClampNeg) = (0 : Int32) from hc9), if_neg (show ¬ ((sx_I (sx_R c 2) 2 t.toNatClampNeg) = (0 : Int32)) from hc21), if_pos (show v = (0 : Int32) from hc34), if_neg (show ¬ ((fr_put (sx_R c 2) s (((sx_L (sx_R c 2) 0 s.toNatClampNeg) * (sx_L (sx_R c 2) 1 t.toNatClampNeg)) + (((1 : Int64) * (sx_L (sx_R c 2) 0 t.toNatClampNeg)) * (sx_L (sx_R c 2) 1 s.toNatClampNeg))) ((sx_L (sx_R c 2) 1 s.toNatClampNeg) * (sx_L (sx_R c 2) 1 t.toNatClampNeg))).1 = (0 : Int32)) from hc117)]
          rw [e]
          try dsimp only
          exact ⟨rfl, rfl⟩
      · skip
        refine pj_J.go (oX12_does G) 4 rfl trivial ?_
        refine pj_J.go1 (pc := 47) (oX12_does G) rfl (po_getD (lo := 5) (hi := 17) (k := 1) (n := 50) (by exact ha) (by decide) (by rfl)) trivial ?_
        refine pj_J.go (oX12_does G) 3 rfl trivial ?_
        refine pj_J.go1 (pc := 55) (oX12_does G) rfl (po_getD (lo := 5) (hi := 17) (k := 1) (n := 58) (by exact ha) (by decide) (by rfl)) trivial ?_
        refine pj_J.go (oX12_does G) 4 rfl ⟨by exact hs, trivial⟩ ?_
        refine pj_J.go1 (pc := 64) (oX12_does G) rfl (po_getD (lo := 5) (hi := 17) (k := 2) (n := 67) (by exact ha) (by decide) (by rfl)) trivial ?_
        refine pj_J.go (oX12_does G) 6 rfl ⟨by exact ht, trivial⟩ ?_
        refine pj_J.go1 (pc := 75) (oX12_does G) rfl (po_getD (lo := 5) (hi := 17) (k := 2) (n := 78) (by exact ha) (by decide) (by rfl)) trivial ?_
        refine pj_J.go (oX12_does G) 5 rfl ⟨by exact ht, trivial⟩ ?_
        refine pj_J.go1 (pc := 85) (oX12_does G) rfl (po_getD (lo := 5) (hi := 17) (k := 1) (n := 88) (by exact ha) (by decide) (by rfl)) trivial ?_
        refine pj_J.go (oX12_does G) 6 rfl ⟨by exact hs, trivial⟩ ?_
        refine pj_J.go1 (pc := 96) (oX12_does G) rfl (po_getD (lo := 5) (hi := 17) (k := 1) (n := 99) (by exact ha) (by decide) (by rfl)) trivial ?_
        refine pj_J.go (oX12_does G) 4 rfl ⟨by exact hs, trivial⟩ ?_
        refine pj_J.go1 (pc := 105) (oX12_does G) rfl (po_getD (lo := 5) (hi := 17) (k := 2) (n := 108) (by exact ha) (by decide) (by rfl)) trivial ?_
        refine pj_J.go (oX12_does G) 2 rfl ⟨by exact ht, trivial⟩ ?_
        refine pj_J.cal0 kX12_does_110 (c_X2_put_2 (c := c) s (((sx_L (sx_R c 2) 0 s.toNatClampNeg) * (sx_L (sx_R c 2) 1 t.toNatClampNeg)) + (((-1 : Int64) * (sx_L (sx_R c 2) 0 t.toNatClampNeg)) * (sx_L (sx_R c 2) 1 s.toNatClampNeg))) ((sx_L (sx_R c 2) 1 s.toNatClampNeg) * (sx_L (sx_R c 2) 1 t.toNatClampNeg)) hs (hO.2.2.2.2.2.2.1 hc9 hc21 hc34) (hO.2.2.2.2.2.2.2.1 hc9 hc21 hc34)) ⟨_, _, _, rfl, rfl⟩ pj_le0 pj_le0 pj_le0 ?_
        refine pj_J.go (oX12_does G) 3 rfl trivial ?_
        refine pj_J.ite (fun hc117 => ?_) (fun hc117 => ?_)
        · skip
          refine pj_J.go (oX12_does G) 3 rfl trivial ?_
          refine pj_J.cal0 kX12_does_123 (c_X6_show_2 (c := (sx_sR c 2 ((fr_put (sx_R c 2) s (((sx_L (sx_R c 2) 0 s.toNatClampNeg) * (sx_L (sx_R c 2) 1 t.toNatClampNeg)) + (((-1 : Int64) * (sx_L (sx_R c 2) 0 t.toNatClampNeg)) * (sx_L (sx_R c 2) 1 s.toNatClampNeg))) ((sx_L (sx_R c 2) 1 s.toNatClampNeg) * (sx_L (sx_R c 2) 1 t.toNatClampNeg))).2))) ha (by decide) hs (1 : Int32)) ⟨_, _, _, rfl, ha⟩ pj_le0 pj_le0 pj_le0 ?_
          refine pj_J.go (oX12_does G) 1 rfl trivial ?_
          refine pj_iret dX12_does_128 rfl ?_
          show _ = _ ∧ _ = _
          have e : fa_added c.1 (sx_R c 2) s t v = ((fr_put (sx_R c 2) s (((sx_L (sx_R c 2) 0 s.toNatClampNeg) * (sx_L (sx_R c 2) 1 t.toNatClampNeg)) + (((-1 : Int64) * (sx_L (sx_R c 2) 0 t.toNatClampNeg)) * (sx_L (sx_R c 2) 1 s.toNatClampNeg))) ((sx_L (sx_R c 2) 1 s.toNatClampNeg) * (sx_L (sx_R c 2) 1 t.toNatClampNeg))).1, (fr_show ((fr_put (sx_R c 2) s (((sx_L (sx_R c 2) 0 s.toNatClampNeg) * (sx_L (sx_R c 2) 1 t.toNatClampNeg)) + (((-1 : Int64) * (sx_L (sx_R c 2) 0 t.toNatClampNeg)) * (sx_L (sx_R c 2) 1 s.toNatClampNeg))) ((sx_L (sx_R c 2) 1 s.toNatClampNeg) * (sx_L (sx_R c 2) 1 t.toNatClampNeg))).2) s (1 : Int32))) := by unfold fa_added; rw [if_pos (show (sx_I (sx_R c 2) 2 s.toNatClampNeg) = (0 : Int32) from hc9), if_neg (show ¬ ((sx_I (sx_R c 2) 2 t.toNatClampNeg) = (0 : Int32)) from hc21), if_neg (show ¬ (v = (0 : Int32)) from hc34), if_pos (show (fr_put (sx_R c 2) s (((sx_L (sx_R c 2) 0 s.toNatClampNeg) * (sx_L (sx_R c 2) 1 t.toNatClampNeg)) + (((-1 : Int64) * (sx_L (sx_R c 2) 0 t.toNatClampNeg)) * (sx_L (sx_R c 2) 1 s.toNatClampNeg))) ((sx_L (sx_R c 2) 1 s.toNatClampNeg) * (sx_L (sx_R c 2) 1 t.toNatClampNeg))).1 = (0 : Int32) from hc117)]
          rw [e]
          try dsimp only
          exact ⟨rfl, rfl⟩
        · skip
          refine pj_J.go (oX12_does G) 1 rfl trivial ?_
          refine pj_iret dX12_does_128 rfl ?_
          show _ = _ ∧ _ = _
          have e : fa_added c.1 (sx_R c 2) s t v = ((fr_put (sx_R c 2) s (((sx_L (sx_R c 2) 0 s.toNatClampNeg) * (sx_L (sx_R c 2) 1 t.toNatClampNeg)) + (((-1 : Int64) * (sx_L (sx_R c 2) 0 t.toNatClampNeg)) * (sx_L (sx_R c 2) 1 s.toNatClampNeg))) ((sx_L (sx_R c 2) 1 s.toNatClampNeg) * (sx_L (sx_R c 2) 1 t.toNatClampNeg))).1, ((fr_put (sx_R c 2) s (((sx_L (sx_R c 2) 0 s.toNatClampNeg) * (sx_L (sx_R c 2) 1 t.toNatClampNeg)) + (((-1 : Int64) * (sx_L (sx_R c 2) 0 t.toNatClampNeg)) * (sx_L (sx_R c 2) 1 s.toNatClampNeg))) ((sx_L (sx_R c 2) 1 s.toNatClampNeg) * (sx_L (sx_R c 2) 1 t.toNatClampNeg))).2)) := by unfold fa_added; rw [if_pos (show (sx_I (sx_R c 2) 2 s.toNatClampNeg) = (0 : Int32) from hc9), if_neg (show ¬ ((sx_I (sx_R c 2) 2 t.toNatClampNeg) = (0 : Int32)) from hc21), if_neg (show ¬ (v = (0 : Int32)) from hc34), if_neg (show ¬ ((fr_put (sx_R c 2) s (((sx_L (sx_R c 2) 0 s.toNatClampNeg) * (sx_L (sx_R c 2) 1 t.toNatClampNeg)) + (((-1 : Int64) * (sx_L (sx_R c 2) 0 t.toNatClampNeg)) * (sx_L (sx_R c 2) 1 s.toNatClampNeg))) ((sx_L (sx_R c 2) 1 s.toNatClampNeg) * (sx_L (sx_R c 2) 1 t.toNatClampNeg))).1 = (0 : Int32)) from hc117)]
          rw [e]
          try dsimp only
          exact ⟨rfl, rfl⟩
  · skip
    refine pj_J.go (oX12_does G) 4 rfl trivial ?_
    refine pj_J.go1 (pc := 31) (oX12_does G) rfl (po_getD (lo := 5) (hi := 17) (k := 3) (n := 34) (by exact ha) (by decide) (by rfl)) trivial ?_
    refine pj_J.go (oX12_does G) 1 rfl trivial ?_
    refine pj_J.ite (fun hc34 => ?_) (fun hc34 => ?_)
    · skip
      refine pj_J.go (oX12_does G) 5 rfl trivial ?_
      refine pj_J.go1 (pc := 47) (oX12_does G) rfl (po_getD (lo := 5) (hi := 17) (k := 1) (n := 50) (by exact ha) (by decide) (by rfl)) trivial ?_
      refine pj_J.go (oX12_does G) 3 rfl trivial ?_
      refine pj_J.go1 (pc := 55) (oX12_does G) rfl (po_getD (lo := 5) (hi := 17) (k := 1) (n := 58) (by exact ha) (by decide) (by rfl)) trivial ?_
      refine pj_J.go (oX12_does G) 4 rfl ⟨by exact hs, trivial⟩ ?_
      refine pj_J.go1 (pc := 64) (oX12_does G) rfl (po_getD (lo := 5) (hi := 17) (k := 2) (n := 67) (by exact ha) (by decide) (by rfl)) trivial ?_
      refine pj_J.go (oX12_does G) 6 rfl ⟨by exact ht, trivial⟩ ?_
      refine pj_J.go1 (pc := 75) (oX12_does G) rfl (po_getD (lo := 5) (hi := 17) (k := 2) (n := 78) (by exact ha) (by decide) (by rfl)) trivial ?_
      refine pj_J.go (oX12_does G) 5 rfl ⟨by exact ht, trivial⟩ ?_
      refine pj_J.go1 (pc := 85) (oX12_does G) rfl (po_getD (lo := 5) (hi := 17) (k := 1) (n := 88) (by exact ha) (by decide) (by rfl)) trivial ?_
      refine pj_J.go (oX12_does G) 6 rfl ⟨by exact hs, trivial⟩ ?_
      refine pj_J.go1 (pc := 96) (oX12_does G) rfl (po_getD (lo := 5) (hi := 17) (k := 1) (n := 99) (by exact ha) (by decide) (by rfl)) trivial ?_
      refine pj_J.go (oX12_does G) 4 rfl ⟨by exact hs, trivial⟩ ?_
      refine pj_J.go1 (pc := 105) (oX12_does G) rfl (po_getD (lo := 5) (hi := 17) (k := 2) (n := 108) (by exact ha) (by decide) (by rfl)) trivial ?_
      refine pj_J.go (oX12_does G) 2 rfl ⟨by exact ht, trivial⟩ ?_
      refine pj_J.cal0 kX12_does_110 (c_X2_put_2 (c := c) s (((sx_L (sx_R c 2) 0 s.toNatClampNeg) * (sx_L (sx_R c 2) 1 t.toNatClampNeg)) + (((1 : Int64) * (sx_L (sx_R c 2) 0 t.toNatClampNeg)) * (sx_L (sx_R c 2) 1 s.toNatClampNeg))) ((sx_L (sx_R c 2) 1 s.toNatClampNeg) * (sx_L (sx_R c 2) 1 t.toNatClampNeg)) hs (hO.2.2.2.2.2.2.2.2.1 hc9 hc34) (hO.2.2.2.2.2.2.2.2.2.1 hc9 hc34)) ⟨_, _, _, rfl, rfl⟩ pj_le0 pj_le0 pj_le0 ?_
      refine pj_J.go (oX12_does G) 3 rfl trivial ?_
      refine pj_J.ite (fun hc117 => ?_) (fun hc117 => ?_)
      · skip
        refine pj_J.go (oX12_does G) 3 rfl trivial ?_
        refine pj_J.cal0 kX12_does_123 (c_X6_show_2 (c := (sx_sR c 2 ((fr_put (sx_R c 2) s (((sx_L (sx_R c 2) 0 s.toNatClampNeg) * (sx_L (sx_R c 2) 1 t.toNatClampNeg)) + (((1 : Int64) * (sx_L (sx_R c 2) 0 t.toNatClampNeg)) * (sx_L (sx_R c 2) 1 s.toNatClampNeg))) ((sx_L (sx_R c 2) 1 s.toNatClampNeg) * (sx_L (sx_R c 2) 1 t.toNatClampNeg))).2))) ha (by decide) hs (1 : Int32)) ⟨_, _, _, rfl, ha⟩ pj_le0 pj_le0 pj_le0 ?_
        refine pj_J.go (oX12_does G) 1 rfl trivial ?_
        refine pj_iret dX12_does_128 rfl ?_
        show _ = _ ∧ _ = _
        have e : fa_added c.1 (sx_R c 2) s t v = ((fr_put (sx_R c 2) s (((sx_L (sx_R c 2) 0 s.toNatClampNeg) * (sx_L (sx_R c 2) 1 t.toNatClampNeg)) + (((1 : Int64) * (sx_L (sx_R c 2) 0 t.toNatClampNeg)) * (sx_L (sx_R c 2) 1 s.toNatClampNeg))) ((sx_L (sx_R c 2) 1 s.toNatClampNeg) * (sx_L (sx_R c 2) 1 t.toNatClampNeg))).1, (fr_show ((fr_put (sx_R c 2) s (((sx_L (sx_R c 2) 0 s.toNatClampNeg) * (sx_L (sx_R c 2) 1 t.toNatClampNeg)) + (((1 : Int64) * (sx_L (sx_R c 2) 0 t.toNatClampNeg)) * (sx_L (sx_R c 2) 1 s.toNatClampNeg))) ((sx_L (sx_R c 2) 1 s.toNatClampNeg) * (sx_L (sx_R c 2) 1 t.toNatClampNeg))).2) s (1 : Int32))) := by unfold fa_added; rw [if_neg (show ¬ ((sx_I (sx_R c 2) 2 s.toNatClampNeg) = (0 : Int32)) from hc9), if_pos (show v = (0 : Int32) from hc34), if_pos (show (fr_put (sx_R c 2) s (((sx_L (sx_R c 2) 0 s.toNatClampNeg) * (sx_L (sx_R c 2) 1 t.toNatClampNeg)) + (((1 : Int64) * (sx_L (sx_R c 2) 0 t.toNatClampNeg)) * (sx_L (sx_R c 2) 1 s.toNatClampNeg))) ((sx_L (sx_R c 2) 1 s.toNatClampNeg) * (sx_L (sx_R c 2) 1 t.toNatClampNeg))).1 = (0 : Int32) from hc117)]
        rw [e]
        try dsimp only
        exact ⟨rfl, rfl⟩
      · skip
        refine pj_J.go (oX12_does G) 1 rfl trivial ?_
        refine pj_iret dX12_does_128 rfl ?_
        show _ = _ ∧ _ = _
        have e : fa_added c.1 (sx_R c 2) s t v = ((fr_put (sx_R c 2) s (((sx_L (sx_R c 2) 0 s.toNatClampNeg) * (sx_L (sx_R c 2) 1 t.toNatClampNeg)) + (((1 : Int64) * (sx_L (sx_R c 2) 0 t.toNatClampNeg)) * (sx_L (sx_R c 2) 1 s.toNatClampNeg))) ((sx_L (sx_R c 2) 1 s.toNatClampNeg) * (sx_L (sx_R c 2) 1 t.toNatClampNeg))).1, ((fr_put (sx_R c 2) s (((sx_L (sx_R c 2) 0 s.toNatClampNeg) * (sx_L (sx_R c 2) 1 t.toNatClampNeg)) + (((1 : Int64) * (sx_L (sx_R c 2) 0 t.toNatClampNeg)) * (sx_L (sx_R c 2) 1 s.toNatClampNeg))) ((sx_L (sx_R c 2) 1 s.toNatClampNeg) * (sx_L (sx_R c 2) 1 t.toNatClampNeg))).2)) := by unfold fa_added; rw [if_neg (show ¬ ((sx_I (sx_R c 2) 2 s.toNatClampNeg) = (0 : Int32)) from hc9), if_pos (show v = (0 : Int32) from hc34), if_neg (show ¬ ((fr_put (sx_R c 2) s (((sx_L (sx_R c 2) 0 s.toNatClampNeg) * (sx_L (sx_R c 2) 1 t.toNatClampNeg)) + (((1 : Int64) * (sx_L (sx_R c 2) 0 t.toNatClampNeg)) * (sx_L (sx_R c 2) 1 s.toNatClampNeg))) ((sx_L (sx_R c 2) 1 s.toNatClampNeg) * (sx_L (sx_R c 2) 1 t.toNatClampNeg))).1 = (0 : Int32)) from hc117)]
        rw [e]
        try dsimp only
        exact ⟨rfl, rfl⟩
    · skip
      refine pj_J.go (oX12_does G) 4 rfl trivial ?_
      refine pj_J.go1 (pc := 47) (oX12_does G) rfl (po_getD (lo := 5) (hi := 17) (k := 1) (n := 50) (by exact ha) (by decide) (by rfl)) trivial ?_
      refine pj_J.go (oX12_does G) 3 rfl trivial ?_
      refine pj_J.go1 (pc := 55) (oX12_does G) rfl (po_getD (lo := 5) (hi := 17) (k := 1) (n := 58) (by exact ha) (by decide) (by rfl)) trivial ?_
      refine pj_J.go (oX12_does G) 4 rfl ⟨by exact hs, trivial⟩ ?_
      refine pj_J.go1 (pc := 64) (oX12_does G) rfl (po_getD (lo := 5) (hi := 17) (k := 2) (n := 67) (by exact ha) (by decide) (by rfl)) trivial ?_
      refine pj_J.go (oX12_does G) 6 rfl ⟨by exact ht, trivial⟩ ?_
      refine pj_J.go1 (pc := 75) (oX12_does G) rfl (po_getD (lo := 5) (hi := 17) (k := 2) (n := 78) (by exact ha) (by decide) (by rfl)) trivial ?_
      refine pj_J.go (oX12_does G) 5 rfl ⟨by exact ht, trivial⟩ ?_
      refine pj_J.go1 (pc := 85) (oX12_does G) rfl (po_getD (lo := 5) (hi := 17) (k := 1) (n := 88) (by exact ha) (by decide) (by rfl)) trivial ?_
      refine pj_J.go (oX12_does G) 6 rfl ⟨by exact hs, trivial⟩ ?_
      refine pj_J.go1 (pc := 96) (oX12_does G) rfl (po_getD (lo := 5) (hi := 17) (k := 1) (n := 99) (by exact ha) (by decide) (by rfl)) trivial ?_
      refine pj_J.go (oX12_does G) 4 rfl ⟨by exact hs, trivial⟩ ?_
      refine pj_J.go1 (pc := 105) (oX12_does G) rfl (po_getD (lo := 5) (hi := 17) (k := 2) (n := 108) (by exact ha) (by decide) (by rfl)) trivial ?_
      refine pj_J.go (oX12_does G) 2 rfl ⟨by exact ht, trivial⟩ ?_
      refine pj_J.cal0 kX12_does_110 (c_X2_put_2 (c := c) s (((sx_L (sx_R c 2) 0 s.toNatClampNeg) * (sx_L (sx_R c 2) 1 t.toNatClampNeg)) + (((-1 : Int64) * (sx_L (sx_R c 2) 0 t.toNatClampNeg)) * (sx_L (sx_R c 2) 1 s.toNatClampNeg))) ((sx_L (sx_R c 2) 1 s.toNatClampNeg) * (sx_L (sx_R c 2) 1 t.toNatClampNeg)) hs (hO.2.2.2.2.2.2.2.2.2.2.1 hc9 hc34) (hO.2.2.2.2.2.2.2.2.2.2.2.1 hc9 hc34)) ⟨_, _, _, rfl, rfl⟩ pj_le0 pj_le0 pj_le0 ?_
      refine pj_J.go (oX12_does G) 3 rfl trivial ?_
      refine pj_J.ite (fun hc117 => ?_) (fun hc117 => ?_)
      · skip
        refine pj_J.go (oX12_does G) 3 rfl trivial ?_
        refine pj_J.cal0 kX12_does_123 (c_X6_show_2 (c := (sx_sR c 2 ((fr_put (sx_R c 2) s (((sx_L (sx_R c 2) 0 s.toNatClampNeg) * (sx_L (sx_R c 2) 1 t.toNatClampNeg)) + (((-1 : Int64) * (sx_L (sx_R c 2) 0 t.toNatClampNeg)) * (sx_L (sx_R c 2) 1 s.toNatClampNeg))) ((sx_L (sx_R c 2) 1 s.toNatClampNeg) * (sx_L (sx_R c 2) 1 t.toNatClampNeg))).2))) ha (by decide) hs (1 : Int32)) ⟨_, _, _, rfl, ha⟩ pj_le0 pj_le0 pj_le0 ?_
        refine pj_J.go (oX12_does G) 1 rfl trivial ?_
        refine pj_iret dX12_does_128 rfl ?_
        show _ = _ ∧ _ = _
        have e : fa_added c.1 (sx_R c 2) s t v = ((fr_put (sx_R c 2) s (((sx_L (sx_R c 2) 0 s.toNatClampNeg) * (sx_L (sx_R c 2) 1 t.toNatClampNeg)) + (((-1 : Int64) * (sx_L (sx_R c 2) 0 t.toNatClampNeg)) * (sx_L (sx_R c 2) 1 s.toNatClampNeg))) ((sx_L (sx_R c 2) 1 s.toNatClampNeg) * (sx_L (sx_R c 2) 1 t.toNatClampNeg))).1, (fr_show ((fr_put (sx_R c 2) s (((sx_L (sx_R c 2) 0 s.toNatClampNeg) * (sx_L (sx_R c 2) 1 t.toNatClampNeg)) + (((-1 : Int64) * (sx_L (sx_R c 2) 0 t.toNatClampNeg)) * (sx_L (sx_R c 2) 1 s.toNatClampNeg))) ((sx_L (sx_R c 2) 1 s.toNatClampNeg) * (sx_L (sx_R c 2) 1 t.toNatClampNeg))).2) s (1 : Int32))) := by unfold fa_added; rw [if_neg (show ¬ ((sx_I (sx_R c 2) 2 s.toNatClampNeg) = (0 : Int32)) from hc9), if_neg (show ¬ (v = (0 : Int32)) from hc34), if_pos (show (fr_put (sx_R c 2) s (((sx_L (sx_R c 2) 0 s.toNatClampNeg) * (sx_L (sx_R c 2) 1 t.toNatClampNeg)) + (((-1 : Int64) * (sx_L (sx_R c 2) 0 t.toNatClampNeg)) * (sx_L (sx_R c 2) 1 s.toNatClampNeg))) ((sx_L (sx_R c 2) 1 s.toNatClampNeg) * (sx_L (sx_R c 2) 1 t.toNatClampNeg))).1 = (0 : Int32) from hc117)]
        rw [e]
        try dsimp only
        exact ⟨rfl, rfl⟩
      · skip
        refine pj_J.go (oX12_does G) 1 rfl trivial ?_
        refine pj_iret dX12_does_128 rfl ?_
        show _ = _ ∧ _ = _
        have e : fa_added c.1 (sx_R c 2) s t v = ((fr_put (sx_R c 2) s (((sx_L (sx_R c 2) 0 s.toNatClampNeg) * (sx_L (sx_R c 2) 1 t.toNatClampNeg)) + (((-1 : Int64) * (sx_L (sx_R c 2) 0 t.toNatClampNeg)) * (sx_L (sx_R c 2) 1 s.toNatClampNeg))) ((sx_L (sx_R c 2) 1 s.toNatClampNeg) * (sx_L (sx_R c 2) 1 t.toNatClampNeg))).1, ((fr_put (sx_R c 2) s (((sx_L (sx_R c 2) 0 s.toNatClampNeg) * (sx_L (sx_R c 2) 1 t.toNatClampNeg)) + (((-1 : Int64) * (sx_L (sx_R c 2) 0 t.toNatClampNeg)) * (sx_L (sx_R c 2) 1 s.toNatClampNeg))) ((sx_L (sx_R c 2) 1 s.toNatClampNeg) * (sx_L (sx_R c 2) 1 t.toNatClampNeg))).2)) := by unfold fa_added; rw [if_neg (show ¬ ((sx_I (sx_R c 2) 2 s.toNatClampNeg) = (0 : Int32)) from hc9), if_neg (show ¬ (v = (0 : Int32)) from hc34), if_neg (show ¬ ((fr_put (sx_R c 2) s (((sx_L (sx_R c 2) 0 s.toNatClampNeg) * (sx_L (sx_R c 2) 1 t.toNatClampNeg)) + (((-1 : Int64) * (sx_L (sx_R c 2) 0 t.toNatClampNeg)) * (sx_L (sx_R c 2) 1 s.toNatClampNeg))) ((sx_L (sx_R c 2) 1 s.toNatClampNeg) * (sx_L (sx_R c 2) 1 t.toNatClampNeg))).1 = (0 : Int32)) from hc117)]
        rw [e]
        try dsimp only
        exact ⟨rfl, rfl⟩
def fa_part (w u : sx_M) (s t v : Int32) : Int32 × sx_M := if (fr_put u s (sx_L u 3 t.toNatClampNeg) (1 : Int64)).1 = (0 : Int32) then ((fr_put u s (sx_L u 3 t.toNatClampNeg) (1 : Int64)).1, (fr_show ((fr_put u s (sx_L u 3 t.toNatClampNeg) (1 : Int64)).2) s (sx_i ((fr_put u s (sx_L u 3 t.toNatClampNeg) (1 : Int64)).2) 4))) else ((fr_put u s (sx_L u 3 t.toNatClampNeg) (1 : Int64)).1, ((fr_put u s (sx_L u 3 t.toNatClampNeg) (1 : Int64)).2))
def fa_part_ok (w u : sx_M) (s t v : Int32) : Prop := (-9223372036854775807 ≤ (sx_L u 3 t.toNatClampNeg)) ∧ True
theorem c_X14_does_0 {G : pj_G} {d : Nat} {c : sx_C} {m : sx_M} {o : Nat → Int64} {D : pj_H} {i : Nat} {kd s t v : Int32} (ha : D[i]? = some (.inr (12, [.int kd, .int s, .int t, .int v]))) (hs : vp_in s 8) (ht : vp_in t 8) (hO : fa_part_ok c.1 (sx_R c 0) s t v) : pj_Rt G mX14_does (d + 3) [.ref (i + 98), .ref 10] (sx_mk c m o D) 0 0 (some (.int (fa_part c.1 (sx_R c 0) s t v).1)) (sx_mk (sx_sR c 0 ((fa_part c.1 (sx_R c 0) s t v).2)) m o D) := by
  refine pj_Cn.start ?_
  refine pj_J.go (oX14_does G) 2 rfl trivial ?_
  refine pj_J.go1 (pc := 2) (oX14_does G) rfl (po_getD (lo := 5) (hi := 17) (k := 1) (n := 5) (by exact ha) (by decide) (by rfl)) trivial ?_
  refine pj_J.go (oX14_does G) 3 rfl trivial ?_
  refine pj_J.go1 (pc := 10) (oX14_does G) rfl (po_getD (lo := 5) (hi := 17) (k := 2) (n := 13) (by exact ha) (by decide) (by rfl)) trivial ?_
  refine pj_J.go (oX14_does G) 2 rfl ⟨by exact ht, trivial⟩ ?_
  refine pj_J.cal0 kX14_does_15 (c_X2_put_0 (c := c) s (sx_L (sx_R c 0) 3 t.toNatClampNeg) (1 : Int64) hs (hO.1) (by decide)) ⟨_, _, _, rfl, rfl⟩ pj_le0 pj_le0 pj_le0 ?_
  refine pj_J.go (oX14_does G) 3 rfl trivial ?_
  refine pj_J.ite (fun hc20 => ?_) (fun hc20 => ?_)
  · skip
    refine pj_J.go (oX14_does G) 4 rfl trivial ?_
    refine pj_J.cal0 kX14_does_29 (c_X6_show_0 (c := (sx_sR c 0 ((fr_put (sx_R c 0) s (sx_L (sx_R c 0) 3 t.toNatClampNeg) (1 : Int64)).2))) ha (by decide) hs (sx_i ((fr_put (sx_R c 0) s (sx_L (sx_R c 0) 3 t.toNatClampNeg) (1 : Int64)).2) 4)) ⟨_, _, _, rfl, ha⟩ pj_le0 pj_le0 pj_le0 ?_
    refine pj_J.go (oX14_does G) 1 rfl trivial ?_
    refine pj_iret dX14_does_33 rfl ?_
    show _ = _ ∧ _ = _
    have e : fa_part c.1 (sx_R c 0) s t v = ((fr_put (sx_R c 0) s (sx_L (sx_R c 0) 3 t.toNatClampNeg) (1 : Int64)).1, (fr_show ((fr_put (sx_R c 0) s (sx_L (sx_R c 0) 3 t.toNatClampNeg) (1 : Int64)).2) s (sx_i ((fr_put (sx_R c 0) s (sx_L (sx_R c 0) 3 t.toNatClampNeg) (1 : Int64)).2) 4))) := by unfold fa_part; rw [if_pos (show (fr_put (sx_R c 0) s (sx_L (sx_R c 0) 3 t.toNatClampNeg) (1 : Int64)).1 = (0 : Int32) from hc20)]
    rw [e]
    try dsimp only
    exact ⟨rfl, rfl⟩
  · skip
    refine pj_J.go (oX14_does G) 1 rfl trivial ?_
    refine pj_iret dX14_does_33 rfl ?_
    show _ = _ ∧ _ = _
    have e : fa_part c.1 (sx_R c 0) s t v = ((fr_put (sx_R c 0) s (sx_L (sx_R c 0) 3 t.toNatClampNeg) (1 : Int64)).1, ((fr_put (sx_R c 0) s (sx_L (sx_R c 0) 3 t.toNatClampNeg) (1 : Int64)).2)) := by unfold fa_part; rw [if_neg (show ¬ ((fr_put (sx_R c 0) s (sx_L (sx_R c 0) 3 t.toNatClampNeg) (1 : Int64)).1 = (0 : Int32)) from hc20)]
    rw [e]
    try dsimp only
    exact ⟨rfl, rfl⟩
theorem c_X14_does_1 {G : pj_G} {d : Nat} {c : sx_C} {m : sx_M} {o : Nat → Int64} {D : pj_H} {i : Nat} {kd s t v : Int32} (ha : D[i]? = some (.inr (12, [.int kd, .int s, .int t, .int v]))) (hs : vp_in s 8) (ht : vp_in t 8) (hO : fa_part_ok c.1 (sx_R c 1) s t v) : pj_Rt G mX14_does (d + 3) [.ref (i + 98), .ref 21] (sx_mk c m o D) 0 0 (some (.int (fa_part c.1 (sx_R c 1) s t v).1)) (sx_mk (sx_sR c 1 ((fa_part c.1 (sx_R c 1) s t v).2)) m o D) := by
  refine pj_Cn.start ?_
  refine pj_J.go (oX14_does G) 2 rfl trivial ?_
  refine pj_J.go1 (pc := 2) (oX14_does G) rfl (po_getD (lo := 5) (hi := 17) (k := 1) (n := 5) (by exact ha) (by decide) (by rfl)) trivial ?_
  refine pj_J.go (oX14_does G) 3 rfl trivial ?_
  refine pj_J.go1 (pc := 10) (oX14_does G) rfl (po_getD (lo := 5) (hi := 17) (k := 2) (n := 13) (by exact ha) (by decide) (by rfl)) trivial ?_
  refine pj_J.go (oX14_does G) 2 rfl ⟨by exact ht, trivial⟩ ?_
  refine pj_J.cal0 kX14_does_15 (c_X2_put_1 (c := c) s (sx_L (sx_R c 1) 3 t.toNatClampNeg) (1 : Int64) hs (hO.1) (by decide)) ⟨_, _, _, rfl, rfl⟩ pj_le0 pj_le0 pj_le0 ?_
  refine pj_J.go (oX14_does G) 3 rfl trivial ?_
  refine pj_J.ite (fun hc20 => ?_) (fun hc20 => ?_)
  · skip
    refine pj_J.go (oX14_does G) 4 rfl trivial ?_
    refine pj_J.cal0 kX14_does_29 (c_X6_show_1 (c := (sx_sR c 1 ((fr_put (sx_R c 1) s (sx_L (sx_R c 1) 3 t.toNatClampNeg) (1 : Int64)).2))) ha (by decide) hs (sx_i ((fr_put (sx_R c 1) s (sx_L (sx_R c 1) 3 t.toNatClampNeg) (1 : Int64)).2) 4)) ⟨_, _, _, rfl, ha⟩ pj_le0 pj_le0 pj_le0 ?_
    refine pj_J.go (oX14_does G) 1 rfl trivial ?_
    refine pj_iret dX14_does_33 rfl ?_
    show _ = _ ∧ _ = _
    have e : fa_part c.1 (sx_R c 1) s t v = ((fr_put (sx_R c 1) s (sx_L (sx_R c 1) 3 t.toNatClampNeg) (1 : Int64)).1, (fr_show ((fr_put (sx_R c 1) s (sx_L (sx_R c 1) 3 t.toNatClampNeg) (1 : Int64)).2) s (sx_i ((fr_put (sx_R c 1) s (sx_L (sx_R c 1) 3 t.toNatClampNeg) (1 : Int64)).2) 4))) := by unfold fa_part; rw [if_pos (show (fr_put (sx_R c 1) s (sx_L (sx_R c 1) 3 t.toNatClampNeg) (1 : Int64)).1 = (0 : Int32) from hc20)]
    rw [e]
    try dsimp only
    exact ⟨rfl, rfl⟩
  · skip
    refine pj_J.go (oX14_does G) 1 rfl trivial ?_
    refine pj_iret dX14_does_33 rfl ?_
    show _ = _ ∧ _ = _
    have e : fa_part c.1 (sx_R c 1) s t v = ((fr_put (sx_R c 1) s (sx_L (sx_R c 1) 3 t.toNatClampNeg) (1 : Int64)).1, ((fr_put (sx_R c 1) s (sx_L (sx_R c 1) 3 t.toNatClampNeg) (1 : Int64)).2)) := by unfold fa_part; rw [if_neg (show ¬ ((fr_put (sx_R c 1) s (sx_L (sx_R c 1) 3 t.toNatClampNeg) (1 : Int64)).1 = (0 : Int32)) from hc20)]
    rw [e]
    try dsimp only
    exact ⟨rfl, rfl⟩
theorem c_X14_does_2 {G : pj_G} {d : Nat} {c : sx_C} {m : sx_M} {o : Nat → Int64} {D : pj_H} {i : Nat} {kd s t v : Int32} (ha : D[i]? = some (.inr (12, [.int kd, .int s, .int t, .int v]))) (hs : vp_in s 8) (ht : vp_in t 8) (hO : fa_part_ok c.1 (sx_R c 2) s t v) : pj_Rt G mX14_does (d + 3) [.ref (i + 98), .ref 32] (sx_mk c m o D) 0 0 (some (.int (fa_part c.1 (sx_R c 2) s t v).1)) (sx_mk (sx_sR c 2 ((fa_part c.1 (sx_R c 2) s t v).2)) m o D) := by
  refine pj_Cn.start ?_
  refine pj_J.go (oX14_does G) 2 rfl trivial ?_
  refine pj_J.go1 (pc := 2) (oX14_does G) rfl (po_getD (lo := 5) (hi := 17) (k := 1) (n := 5) (by exact ha) (by decide) (by rfl)) trivial ?_
  refine pj_J.go (oX14_does G) 3 rfl trivial ?_
  refine pj_J.go1 (pc := 10) (oX14_does G) rfl (po_getD (lo := 5) (hi := 17) (k := 2) (n := 13) (by exact ha) (by decide) (by rfl)) trivial ?_
  refine pj_J.go (oX14_does G) 2 rfl ⟨by exact ht, trivial⟩ ?_
  refine pj_J.cal0 kX14_does_15 (c_X2_put_2 (c := c) s (sx_L (sx_R c 2) 3 t.toNatClampNeg) (1 : Int64) hs (hO.1) (by decide)) ⟨_, _, _, rfl, rfl⟩ pj_le0 pj_le0 pj_le0 ?_
  refine pj_J.go (oX14_does G) 3 rfl trivial ?_
  refine pj_J.ite (fun hc20 => ?_) (fun hc20 => ?_)
  · skip
    refine pj_J.go (oX14_does G) 4 rfl trivial ?_
    refine pj_J.cal0 kX14_does_29 (c_X6_show_2 (c := (sx_sR c 2 ((fr_put (sx_R c 2) s (sx_L (sx_R c 2) 3 t.toNatClampNeg) (1 : Int64)).2))) ha (by decide) hs (sx_i ((fr_put (sx_R c 2) s (sx_L (sx_R c 2) 3 t.toNatClampNeg) (1 : Int64)).2) 4)) ⟨_, _, _, rfl, ha⟩ pj_le0 pj_le0 pj_le0 ?_
    refine pj_J.go (oX14_does G) 1 rfl trivial ?_
    refine pj_iret dX14_does_33 rfl ?_
    show _ = _ ∧ _ = _
    have e : fa_part c.1 (sx_R c 2) s t v = ((fr_put (sx_R c 2) s (sx_L (sx_R c 2) 3 t.toNatClampNeg) (1 : Int64)).1, (fr_show ((fr_put (sx_R c 2) s (sx_L (sx_R c 2) 3 t.toNatClampNeg) (1 : Int64)).2) s (sx_i ((fr_put (sx_R c 2) s (sx_L (sx_R c 2) 3 t.toNatClampNeg) (1 : Int64)).2) 4))) := by unfold fa_part; rw [if_pos (show (fr_put (sx_R c 2) s (sx_L (sx_R c 2) 3 t.toNatClampNeg) (1 : Int64)).1 = (0 : Int32) from hc20)]
    rw [e]
    try dsimp only
    exact ⟨rfl, rfl⟩
  · skip
    refine pj_J.go (oX14_does G) 1 rfl trivial ?_
    refine pj_iret dX14_does_33 rfl ?_
    show _ = _ ∧ _ = _
    have e : fa_part c.1 (sx_R c 2) s t v = ((fr_put (sx_R c 2) s (sx_L (sx_R c 2) 3 t.toNatClampNeg) (1 : Int64)).1, ((fr_put (sx_R c 2) s (sx_L (sx_R c 2) 3 t.toNatClampNeg) (1 : Int64)).2)) := by unfold fa_part; rw [if_neg (show ¬ ((fr_put (sx_R c 2) s (sx_L (sx_R c 2) 3 t.toNatClampNeg) (1 : Int64)).1 = (0 : Int32)) from hc20)]
    rw [e]
    try dsimp only
    exact ⟨rfl, rfl⟩
def fa_carry (w u : sx_M) (s t v : Int32) : Int32 × sx_M := if (fr_put u s (((sx_L u 0 s.toNatClampNeg) * (sx_l u 11)) + ((sx_l u 10) * (sx_L u 1 s.toNatClampNeg))) ((sx_L u 1 s.toNatClampNeg) * (sx_l u 11))).1 = (0 : Int32) then ((fr_put (sx_sl (sx_sl ((fr_put u s (((sx_L u 0 s.toNatClampNeg) * (sx_l u 11)) + ((sx_l u 10) * (sx_L u 1 s.toNatClampNeg))) ((sx_L u 1 s.toNatClampNeg) * (sx_l u 11))).2) 10 ((sx_L ((fr_put u s (((sx_L u 0 s.toNatClampNeg) * (sx_l u 11)) + ((sx_l u 10) * (sx_L u 1 s.toNatClampNeg))) ((sx_L u 1 s.toNatClampNeg) * (sx_l u 11))).2) 0 s.toNatClampNeg) - ((fc_floor (sx_L ((fr_put u s (((sx_L u 0 s.toNatClampNeg) * (sx_l u 11)) + ((sx_l u 10) * (sx_L u 1 s.toNatClampNeg))) ((sx_L u 1 s.toNatClampNeg) * (sx_l u 11))).2) 0 s.toNatClampNeg) (sx_L ((fr_put u s (((sx_L u 0 s.toNatClampNeg) * (sx_l u 11)) + ((sx_l u 10) * (sx_L u 1 s.toNatClampNeg))) ((sx_L u 1 s.toNatClampNeg) * (sx_l u 11))).2) 1 s.toNatClampNeg)) * (sx_L ((fr_put u s (((sx_L u 0 s.toNatClampNeg) * (sx_l u 11)) + ((sx_l u 10) * (sx_L u 1 s.toNatClampNeg))) ((sx_L u 1 s.toNatClampNeg) * (sx_l u 11))).2) 1 s.toNatClampNeg)))) 11 (sx_L ((fr_put u s (((sx_L u 0 s.toNatClampNeg) * (sx_l u 11)) + ((sx_l u 10) * (sx_L u 1 s.toNatClampNeg))) ((sx_L u 1 s.toNatClampNeg) * (sx_l u 11))).2) 1 s.toNatClampNeg)) s (fc_floor (sx_L ((fr_put u s (((sx_L u 0 s.toNatClampNeg) * (sx_l u 11)) + ((sx_l u 10) * (sx_L u 1 s.toNatClampNeg))) ((sx_L u 1 s.toNatClampNeg) * (sx_l u 11))).2) 0 s.toNatClampNeg) (sx_L ((fr_put u s (((sx_L u 0 s.toNatClampNeg) * (sx_l u 11)) + ((sx_l u 10) * (sx_L u 1 s.toNatClampNeg))) ((sx_L u 1 s.toNatClampNeg) * (sx_l u 11))).2) 1 s.toNatClampNeg)) (1 : Int64)).1, ((fr_put (sx_sl (sx_sl ((fr_put u s (((sx_L u 0 s.toNatClampNeg) * (sx_l u 11)) + ((sx_l u 10) * (sx_L u 1 s.toNatClampNeg))) ((sx_L u 1 s.toNatClampNeg) * (sx_l u 11))).2) 10 ((sx_L ((fr_put u s (((sx_L u 0 s.toNatClampNeg) * (sx_l u 11)) + ((sx_l u 10) * (sx_L u 1 s.toNatClampNeg))) ((sx_L u 1 s.toNatClampNeg) * (sx_l u 11))).2) 0 s.toNatClampNeg) - ((fc_floor (sx_L ((fr_put u s (((sx_L u 0 s.toNatClampNeg) * (sx_l u 11)) + ((sx_l u 10) * (sx_L u 1 s.toNatClampNeg))) ((sx_L u 1 s.toNatClampNeg) * (sx_l u 11))).2) 0 s.toNatClampNeg) (sx_L ((fr_put u s (((sx_L u 0 s.toNatClampNeg) * (sx_l u 11)) + ((sx_l u 10) * (sx_L u 1 s.toNatClampNeg))) ((sx_L u 1 s.toNatClampNeg) * (sx_l u 11))).2) 1 s.toNatClampNeg)) * (sx_L ((fr_put u s (((sx_L u 0 s.toNatClampNeg) * (sx_l u 11)) + ((sx_l u 10) * (sx_L u 1 s.toNatClampNeg))) ((sx_L u 1 s.toNatClampNeg) * (sx_l u 11))).2) 1 s.toNatClampNeg)))) 11 (sx_L ((fr_put u s (((sx_L u 0 s.toNatClampNeg) * (sx_l u 11)) + ((sx_l u 10) * (sx_L u 1 s.toNatClampNeg))) ((sx_L u 1 s.toNatClampNeg) * (sx_l u 11))).2) 1 s.toNatClampNeg)) s (fc_floor (sx_L ((fr_put u s (((sx_L u 0 s.toNatClampNeg) * (sx_l u 11)) + ((sx_l u 10) * (sx_L u 1 s.toNatClampNeg))) ((sx_L u 1 s.toNatClampNeg) * (sx_l u 11))).2) 0 s.toNatClampNeg) (sx_L ((fr_put u s (((sx_L u 0 s.toNatClampNeg) * (sx_l u 11)) + ((sx_l u 10) * (sx_L u 1 s.toNatClampNeg))) ((sx_L u 1 s.toNatClampNeg) * (sx_l u 11))).2) 1 s.toNatClampNeg)) (1 : Int64)).2)) else ((fr_put u s (((sx_L u 0 s.toNatClampNeg) * (sx_l u 11)) + ((sx_l u 10) * (sx_L u 1 s.toNatClampNeg))) ((sx_L u 1 s.toNatClampNeg) * (sx_l u 11))).1, ((fr_put u s (((sx_L u 0 s.toNatClampNeg) * (sx_l u 11)) + ((sx_l u 10) * (sx_L u 1 s.toNatClampNeg))) ((sx_L u 1 s.toNatClampNeg) * (sx_l u 11))).2))
def fa_carry_ok (w u : sx_M) (s t v : Int32) : Prop := (-9223372036854775807 ≤ (((sx_L u 0 s.toNatClampNeg) * (sx_l u 11)) + ((sx_l u 10) * (sx_L u 1 s.toNatClampNeg)))) ∧ (0 < ((sx_L u 1 s.toNatClampNeg) * (sx_l u 11))) ∧ ((fr_put u s (((sx_L u 0 s.toNatClampNeg) * (sx_l u 11)) + ((sx_l u 10) * (sx_L u 1 s.toNatClampNeg))) ((sx_L u 1 s.toNatClampNeg) * (sx_l u 11))).1 = (0 : Int32) → ¬ (sx_L ((fr_put u s (((sx_L u 0 s.toNatClampNeg) * (sx_l u 11)) + ((sx_l u 10) * (sx_L u 1 s.toNatClampNeg))) ((sx_L u 1 s.toNatClampNeg) * (sx_l u 11))).2) 1 s.toNatClampNeg) = 0) ∧ ((fr_put u s (((sx_L u 0 s.toNatClampNeg) * (sx_l u 11)) + ((sx_l u 10) * (sx_L u 1 s.toNatClampNeg))) ((sx_L u 1 s.toNatClampNeg) * (sx_l u 11))).1 = (0 : Int32) → -9223372036854775807 ≤ (fc_floor (sx_L ((fr_put u s (((sx_L u 0 s.toNatClampNeg) * (sx_l u 11)) + ((sx_l u 10) * (sx_L u 1 s.toNatClampNeg))) ((sx_L u 1 s.toNatClampNeg) * (sx_l u 11))).2) 0 s.toNatClampNeg) (sx_L ((fr_put u s (((sx_L u 0 s.toNatClampNeg) * (sx_l u 11)) + ((sx_l u 10) * (sx_L u 1 s.toNatClampNeg))) ((sx_L u 1 s.toNatClampNeg) * (sx_l u 11))).2) 1 s.toNatClampNeg))) ∧ True
theorem c_X15_does_0 {G : pj_G} {d : Nat} {c : sx_C} {m : sx_M} {o : Nat → Int64} {D : pj_H} {i : Nat} {kd s t v : Int32} (ha : D[i]? = some (.inr (13, [.int kd, .int s, .int t, .int v]))) (hs : vp_in s 8) (hO : fa_carry_ok c.1 (sx_R c 0) s t v) : pj_Rt G mX15_does (d + 3) [.ref (i + 98), .ref 10] (sx_mk c m o D) 0 0 (some (.int (fa_carry c.1 (sx_R c 0) s t v).1)) (sx_mk (sx_sR c 0 ((fa_carry c.1 (sx_R c 0) s t v).2)) m o D) := by
  refine pj_Cn.start ?_
  refine pj_J.go (oX15_does G) 2 rfl trivial ?_
  refine pj_J.go1 (pc := 2) (oX15_does G) rfl (po_getD (lo := 5) (hi := 17) (k := 1) (n := 5) (by exact ha) (by decide) (by rfl)) trivial ?_
  refine pj_J.go (oX15_does G) 3 rfl trivial ?_
  refine pj_J.go1 (pc := 10) (oX15_does G) rfl (po_getD (lo := 5) (hi := 17) (k := 1) (n := 13) (by exact ha) (by decide) (by rfl)) trivial ?_
  refine pj_J.go (oX15_does G) 9 rfl ⟨by exact hs, trivial⟩ ?_
  refine pj_J.go1 (pc := 28) (oX15_does G) rfl (po_getD (lo := 5) (hi := 17) (k := 1) (n := 31) (by exact ha) (by decide) (by rfl)) trivial ?_
  refine pj_J.go (oX15_does G) 6 rfl ⟨by exact hs, trivial⟩ ?_
  refine pj_J.go1 (pc := 39) (oX15_does G) rfl (po_getD (lo := 5) (hi := 17) (k := 1) (n := 42) (by exact ha) (by decide) (by rfl)) trivial ?_
  refine pj_J.go (oX15_does G) 4 rfl ⟨by exact hs, trivial⟩ ?_
  refine pj_J.cal0 kX15_does_48 (c_X2_put_0 (c := c) s (((sx_L (sx_R c 0) 0 s.toNatClampNeg) * (sx_l (sx_R c 0) 11)) + ((sx_l (sx_R c 0) 10) * (sx_L (sx_R c 0) 1 s.toNatClampNeg))) ((sx_L (sx_R c 0) 1 s.toNatClampNeg) * (sx_l (sx_R c 0) 11)) hs (hO.1) (hO.2.1)) ⟨_, _, _, rfl, rfl⟩ pj_le0 pj_le0 pj_le0 ?_
  refine pj_J.go (oX15_does G) 3 rfl trivial ?_
  refine pj_J.ite (fun hc53 => ?_) (fun hc53 => ?_)
  · skip
    refine pj_J.go (oX15_does G) 3 rfl trivial ?_
    refine pj_J.go1 (pc := 63) (oX15_does G) rfl (po_getD (lo := 5) (hi := 17) (k := 1) (n := 66) (by exact ha) (by decide) (by rfl)) trivial ?_
    refine pj_J.go (oX15_does G) 4 rfl ⟨by exact hs, trivial⟩ ?_
    refine pj_J.go1 (pc := 72) (oX15_does G) rfl (po_getD (lo := 5) (hi := 17) (k := 1) (n := 75) (by exact ha) (by decide) (by rfl)) trivial ?_
    refine pj_J.go (oX15_does G) 1 rfl ⟨by exact hs, trivial⟩ ?_
    refine pj_J.cal0 kX15_does_76 (c_X1_floorOf (sx_L ((fr_put (sx_R c 0) s (((sx_L (sx_R c 0) 0 s.toNatClampNeg) * (sx_l (sx_R c 0) 11)) + ((sx_l (sx_R c 0) 10) * (sx_L (sx_R c 0) 1 s.toNatClampNeg))) ((sx_L (sx_R c 0) 1 s.toNatClampNeg) * (sx_l (sx_R c 0) 11))).2) 0 s.toNatClampNeg) (sx_L ((fr_put (sx_R c 0) s (((sx_L (sx_R c 0) 0 s.toNatClampNeg) * (sx_l (sx_R c 0) 11)) + ((sx_l (sx_R c 0) 10) * (sx_L (sx_R c 0) 1 s.toNatClampNeg))) ((sx_L (sx_R c 0) 1 s.toNatClampNeg) * (sx_l (sx_R c 0) 11))).2) 1 s.toNatClampNeg) (hO.2.2.1 hc53)) trivial pj_le0 pj_le0 pj_le0 ?_
    refine pj_J.go (oX15_does G) 5 rfl trivial ?_
    refine pj_J.go1 (pc := 86) (oX15_does G) rfl (po_getD (lo := 5) (hi := 17) (k := 1) (n := 89) (by exact ha) (by decide) (by rfl)) trivial ?_
    refine pj_J.go (oX15_does G) 5 rfl ⟨by exact hs, trivial⟩ ?_
    refine pj_J.go1 (pc := 96) (oX15_does G) rfl (po_getD (lo := 5) (hi := 17) (k := 1) (n := 99) (by exact ha) (by decide) (by rfl)) trivial ?_
    refine pj_J.go (oX15_does G) 8 rfl ⟨by exact hs, trivial⟩ ?_
    refine pj_J.go1 (pc := 111) (oX15_does G) rfl (po_getD (lo := 5) (hi := 17) (k := 1) (n := 114) (by exact ha) (by decide) (by rfl)) trivial ?_
    refine pj_J.go (oX15_does G) 4 rfl ⟨by exact hs, trivial⟩ ?_
    refine pj_J.go1 (pc := 120) (oX15_does G) rfl (po_getD (lo := 5) (hi := 17) (k := 1) (n := 123) (by exact ha) (by decide) (by rfl)) trivial ?_
    refine pj_J.go (oX15_does G) 2 rfl trivial ?_
    refine pj_J.cal0 kX15_does_125 (c_X2_put_0 (c := (sx_sR c 0 (sx_sl (sx_sl ((fr_put (sx_R c 0) s (((sx_L (sx_R c 0) 0 s.toNatClampNeg) * (sx_l (sx_R c 0) 11)) + ((sx_l (sx_R c 0) 10) * (sx_L (sx_R c 0) 1 s.toNatClampNeg))) ((sx_L (sx_R c 0) 1 s.toNatClampNeg) * (sx_l (sx_R c 0) 11))).2) 10 ((sx_L ((fr_put (sx_R c 0) s (((sx_L (sx_R c 0) 0 s.toNatClampNeg) * (sx_l (sx_R c 0) 11)) + ((sx_l (sx_R c 0) 10) * (sx_L (sx_R c 0) 1 s.toNatClampNeg))) ((sx_L (sx_R c 0) 1 s.toNatClampNeg) * (sx_l (sx_R c 0) 11))).2) 0 s.toNatClampNeg) - ((fc_floor (sx_L ((fr_put (sx_R c 0) s (((sx_L (sx_R c 0) 0 s.toNatClampNeg) * (sx_l (sx_R c 0) 11)) + ((sx_l (sx_R c 0) 10) * (sx_L (sx_R c 0) 1 s.toNatClampNeg))) ((sx_L (sx_R c 0) 1 s.toNatClampNeg) * (sx_l (sx_R c 0) 11))).2) 0 s.toNatClampNeg) (sx_L ((fr_put (sx_R c 0) s (((sx_L (sx_R c 0) 0 s.toNatClampNeg) * (sx_l (sx_R c 0) 11)) + ((sx_l (sx_R c 0) 10) * (sx_L (sx_R c 0) 1 s.toNatClampNeg))) ((sx_L (sx_R c 0) 1 s.toNatClampNeg) * (sx_l (sx_R c 0) 11))).2) 1 s.toNatClampNeg)) * (sx_L ((fr_put (sx_R c 0) s (((sx_L (sx_R c 0) 0 s.toNatClampNeg) * (sx_l (sx_R c 0) 11)) + ((sx_l (sx_R c 0) 10) * (sx_L (sx_R c 0) 1 s.toNatClampNeg))) ((sx_L (sx_R c 0) 1 s.toNatClampNeg) * (sx_l (sx_R c 0) 11))).2) 1 s.toNatClampNeg)))) 11 (sx_L ((fr_put (sx_R c 0) s (((sx_L (sx_R c 0) 0 s.toNatClampNeg) * (sx_l (sx_R c 0) 11)) + ((sx_l (sx_R c 0) 10) * (sx_L (sx_R c 0) 1 s.toNatClampNeg))) ((sx_L (sx_R c 0) 1 s.toNatClampNeg) * (sx_l (sx_R c 0) 11))).2) 1 s.toNatClampNeg)))) s (fc_floor (sx_L ((fr_put (sx_R c 0) s (((sx_L (sx_R c 0) 0 s.toNatClampNeg) * (sx_l (sx_R c 0) 11)) + ((sx_l (sx_R c 0) 10) * (sx_L (sx_R c 0) 1 s.toNatClampNeg))) ((sx_L (sx_R c 0) 1 s.toNatClampNeg) * (sx_l (sx_R c 0) 11))).2) 0 s.toNatClampNeg) (sx_L ((fr_put (sx_R c 0) s (((sx_L (sx_R c 0) 0 s.toNatClampNeg) * (sx_l (sx_R c 0) 11)) + ((sx_l (sx_R c 0) 10) * (sx_L (sx_R c 0) 1 s.toNatClampNeg))) ((sx_L (sx_R c 0) 1 s.toNatClampNeg) * (sx_l (sx_R c 0) 11))).2) 1 s.toNatClampNeg)) (1 : Int64) hs (hO.2.2.2.1 hc53) (by decide)) ⟨_, _, _, rfl, rfl⟩ pj_le0 pj_le0 pj_le0 ?_
    refine pj_iret dX15_does_128 rfl ?_
    show _ = _ ∧ _ = _
    have e : fa_carry c.1 (sx_R c 0) s t v = ((fr_put (sx_sl (sx_sl ((fr_put (sx_R c 0) s (((sx_L (sx_R c 0) 0 s.toNatClampNeg) * (sx_l (sx_R c 0) 11)) + ((sx_l (sx_R c 0) 10) * (sx_L (sx_R c 0) 1 s.toNatClampNeg))) ((sx_L (sx_R c 0) 1 s.toNatClampNeg) * (sx_l (sx_R c 0) 11))).2) 10 ((sx_L ((fr_put (sx_R c 0) s (((sx_L (sx_R c 0) 0 s.toNatClampNeg) * (sx_l (sx_R c 0) 11)) + ((sx_l (sx_R c 0) 10) * (sx_L (sx_R c 0) 1 s.toNatClampNeg))) ((sx_L (sx_R c 0) 1 s.toNatClampNeg) * (sx_l (sx_R c 0) 11))).2) 0 s.toNatClampNeg) - ((fc_floor (sx_L ((fr_put (sx_R c 0) s (((sx_L (sx_R c 0) 0 s.toNatClampNeg) * (sx_l (sx_R c 0) 11)) + ((sx_l (sx_R c 0) 10) * (sx_L (sx_R c 0) 1 s.toNatClampNeg))) ((sx_L (sx_R c 0) 1 s.toNatClampNeg) * (sx_l (sx_R c 0) 11))).2) 0 s.toNatClampNeg) (sx_L ((fr_put (sx_R c 0) s (((sx_L (sx_R c 0) 0 s.toNatClampNeg) * (sx_l (sx_R c 0) 11)) + ((sx_l (sx_R c 0) 10) * (sx_L (sx_R c 0) 1 s.toNatClampNeg))) ((sx_L (sx_R c 0) 1 s.toNatClampNeg) * (sx_l (sx_R c 0) 11))).2) 1 s.toNatClampNeg)) * (sx_L ((fr_put (sx_R c 0) s (((sx_L (sx_R c 0) 0 s.toNatClampNeg) * (sx_l (sx_R c 0) 11)) + ((sx_l (sx_R c 0) 10) * (sx_L (sx_R c 0) 1 s.toNatClampNeg))) ((sx_L (sx_R c 0) 1 s.toNatClampNeg) * (sx_l (sx_R c 0) 11))).2) 1 s.toNatClampNeg)))) 11 (sx_L ((fr_put (sx_R c 0) s (((sx_L (sx_R c 0) 0 s.toNatClampNeg) * (sx_l (sx_R c 0) 11)) + ((sx_l (sx_R c 0) 10) * (sx_L (sx_R c 0) 1 s.toNatClampNeg))) ((sx_L (sx_R c 0) 1 s.toNatClampNeg) * (sx_l (sx_R c 0) 11))).2) 1 s.toNatClampNeg)) s (fc_floor (sx_L ((fr_put (sx_R c 0) s (((sx_L (sx_R c 0) 0 s.toNatClampNeg) * (sx_l (sx_R c 0) 11)) + ((sx_l (sx_R c 0) 10) * (sx_L (sx_R c 0) 1 s.toNatClampNeg))) ((sx_L (sx_R c 0) 1 s.toNatClampNeg) * (sx_l (sx_R c 0) 11))).2) 0 s.toNatClampNeg) (sx_L ((fr_put (sx_R c 0) s (((sx_L (sx_R c 0) 0 s.toNatClampNeg) * (sx_l (sx_R c 0) 11)) + ((sx_l (sx_R c 0) 10) * (sx_L (sx_R c 0) 1 s.toNatClampNeg))) ((sx_L (sx_R c 0) 1 s.toNatClampNeg) * (sx_l (sx_R c 0) 11))).2) 1 s.toNatClampNeg)) (1 : Int64)).1, ((fr_put (sx_sl (sx_sl ((fr_put (sx_R c 0) s (((sx_L (sx_R c 0) 0 s.toNatClampNeg) * (sx_l (sx_R c 0) 11)) + ((sx_l (sx_R c 0) 10) * (sx_L (sx_R c 0) 1 s.toNatClampNeg))) ((sx_L (sx_R c 0) 1 s.toNatClampNeg) * (sx_l (sx_R c 0) 11))).2) 10 ((sx_L ((fr_put (sx_R c 0) s (((sx_L (sx_R c 0) 0 s.toNatClampNeg) * (sx_l (sx_R c 0) 11)) + ((sx_l (sx_R c 0) 10) * (sx_L (sx_R c 0) 1 s.toNatClampNeg))) ((sx_L (sx_R c 0) 1 s.toNatClampNeg) * (sx_l (sx_R c 0) 11))).2) 0 s.toNatClampNeg) - ((fc_floor (sx_L ((fr_put (sx_R c 0) s (((sx_L (sx_R c 0) 0 s.toNatClampNeg) * (sx_l (sx_R c 0) 11)) + ((sx_l (sx_R c 0) 10) * (sx_L (sx_R c 0) 1 s.toNatClampNeg))) ((sx_L (sx_R c 0) 1 s.toNatClampNeg) * (sx_l (sx_R c 0) 11))).2) 0 s.toNatClampNeg) (sx_L ((fr_put (sx_R c 0) s (((sx_L (sx_R c 0) 0 s.toNatClampNeg) * (sx_l (sx_R c 0) 11)) + ((sx_l (sx_R c 0) 10) * (sx_L (sx_R c 0) 1 s.toNatClampNeg))) ((sx_L (sx_R c 0) 1 s.toNatClampNeg) * (sx_l (sx_R c 0) 11))).2) 1 s.toNatClampNeg)) * (sx_L ((fr_put (sx_R c 0) s (((sx_L (sx_R c 0) 0 s.toNatClampNeg) * (sx_l (sx_R c 0) 11)) + ((sx_l (sx_R c 0) 10) * (sx_L (sx_R c 0) 1 s.toNatClampNeg))) ((sx_L (sx_R c 0) 1 s.toNatClampNeg) * (sx_l (sx_R c 0) 11))).2) 1 s.toNatClampNeg)))) 11 (sx_L ((fr_put (sx_R c 0) s (((sx_L (sx_R c 0) 0 s.toNatClampNeg) * (sx_l (sx_R c 0) 11)) + ((sx_l (sx_R c 0) 10) * (sx_L (sx_R c 0) 1 s.toNatClampNeg))) ((sx_L (sx_R c 0) 1 s.toNatClampNeg) * (sx_l (sx_R c 0) 11))).2) 1 s.toNatClampNeg)) s (fc_floor (sx_L ((fr_put (sx_R c 0) s (((sx_L (sx_R c 0) 0 s.toNatClampNeg) * (sx_l (sx_R c 0) 11)) + ((sx_l (sx_R c 0) 10) * (sx_L (sx_R c 0) 1 s.toNatClampNeg))) ((sx_L (sx_R c 0) 1 s.toNatClampNeg) * (sx_l (sx_R c 0) 11))).2) 0 s.toNatClampNeg) (sx_L ((fr_put (sx_R c 0) s (((sx_L (sx_R c 0) 0 s.toNatClampNeg) * (sx_l (sx_R c 0) 11)) + ((sx_l (sx_R c 0) 10) * (sx_L (sx_R c 0) 1 s.toNatClampNeg))) ((sx_L (sx_R c 0) 1 s.toNatClampNeg) * (sx_l (sx_R c 0) 11))).2) 1 s.toNatClampNeg)) (1 : Int64)).2)) := by unfold fa_carry; rw [if_pos (show (fr_put (sx_R c 0) s (((sx_L (sx_R c 0) 0 s.toNatClampNeg) * (sx_l (sx_R c 0) 11)) + ((sx_l (sx_R c 0) 10) * (sx_L (sx_R c 0) 1 s.toNatClampNeg))) ((sx_L (sx_R c 0) 1 s.toNatClampNeg) * (sx_l (sx_R c 0) 11))).1 = (0 : Int32) from hc53)]
    rw [e]
    try dsimp only
    exact ⟨rfl, rfl⟩
  · skip
    refine pj_J.go (oX15_does G) 1 rfl trivial ?_
    refine pj_iret dX15_does_57 rfl ?_
    show _ = _ ∧ _ = _
    have e : fa_carry c.1 (sx_R c 0) s t v = ((fr_put (sx_R c 0) s (((sx_L (sx_R c 0) 0 s.toNatClampNeg) * (sx_l (sx_R c 0) 11)) + ((sx_l (sx_R c 0) 10) * (sx_L (sx_R c 0) 1 s.toNatClampNeg))) ((sx_L (sx_R c 0) 1 s.toNatClampNeg) * (sx_l (sx_R c 0) 11))).1, ((fr_put (sx_R c 0) s (((sx_L (sx_R c 0) 0 s.toNatClampNeg) * (sx_l (sx_R c 0) 11)) + ((sx_l (sx_R c 0) 10) * (sx_L (sx_R c 0) 1 s.toNatClampNeg))) ((sx_L (sx_R c 0) 1 s.toNatClampNeg) * (sx_l (sx_R c 0) 11))).2)) := by unfold fa_carry; rw [if_neg (show ¬ ((fr_put (sx_R c 0) s (((sx_L (sx_R c 0) 0 s.toNatClampNeg) * (sx_l (sx_R c 0) 11)) + ((sx_l (sx_R c 0) 10) * (sx_L (sx_R c 0) 1 s.toNatClampNeg))) ((sx_L (sx_R c 0) 1 s.toNatClampNeg) * (sx_l (sx_R c 0) 11))).1 = (0 : Int32)) from hc53)]
    rw [e]
    try dsimp only
    exact ⟨rfl, rfl⟩
theorem c_X15_does_1 {G : pj_G} {d : Nat} {c : sx_C} {m : sx_M} {o : Nat → Int64} {D : pj_H} {i : Nat} {kd s t v : Int32} (ha : D[i]? = some (.inr (13, [.int kd, .int s, .int t, .int v]))) (hs : vp_in s 8) (hO : fa_carry_ok c.1 (sx_R c 1) s t v) : pj_Rt G mX15_does (d + 3) [.ref (i + 98), .ref 21] (sx_mk c m o D) 0 0 (some (.int (fa_carry c.1 (sx_R c 1) s t v).1)) (sx_mk (sx_sR c 1 ((fa_carry c.1 (sx_R c 1) s t v).2)) m o D) := by
  refine pj_Cn.start ?_
  refine pj_J.go (oX15_does G) 2 rfl trivial ?_
  refine pj_J.go1 (pc := 2) (oX15_does G) rfl (po_getD (lo := 5) (hi := 17) (k := 1) (n := 5) (by exact ha) (by decide) (by rfl)) trivial ?_
  refine pj_J.go (oX15_does G) 3 rfl trivial ?_
  refine pj_J.go1 (pc := 10) (oX15_does G) rfl (po_getD (lo := 5) (hi := 17) (k := 1) (n := 13) (by exact ha) (by decide) (by rfl)) trivial ?_
  refine pj_J.go (oX15_does G) 9 rfl ⟨by exact hs, trivial⟩ ?_
  refine pj_J.go1 (pc := 28) (oX15_does G) rfl (po_getD (lo := 5) (hi := 17) (k := 1) (n := 31) (by exact ha) (by decide) (by rfl)) trivial ?_
  refine pj_J.go (oX15_does G) 6 rfl ⟨by exact hs, trivial⟩ ?_
  refine pj_J.go1 (pc := 39) (oX15_does G) rfl (po_getD (lo := 5) (hi := 17) (k := 1) (n := 42) (by exact ha) (by decide) (by rfl)) trivial ?_
  refine pj_J.go (oX15_does G) 4 rfl ⟨by exact hs, trivial⟩ ?_
  refine pj_J.cal0 kX15_does_48 (c_X2_put_1 (c := c) s (((sx_L (sx_R c 1) 0 s.toNatClampNeg) * (sx_l (sx_R c 1) 11)) + ((sx_l (sx_R c 1) 10) * (sx_L (sx_R c 1) 1 s.toNatClampNeg))) ((sx_L (sx_R c 1) 1 s.toNatClampNeg) * (sx_l (sx_R c 1) 11)) hs (hO.1) (hO.2.1)) ⟨_, _, _, rfl, rfl⟩ pj_le0 pj_le0 pj_le0 ?_
  refine pj_J.go (oX15_does G) 3 rfl trivial ?_
  refine pj_J.ite (fun hc53 => ?_) (fun hc53 => ?_)
  · skip
    refine pj_J.go (oX15_does G) 3 rfl trivial ?_
    refine pj_J.go1 (pc := 63) (oX15_does G) rfl (po_getD (lo := 5) (hi := 17) (k := 1) (n := 66) (by exact ha) (by decide) (by rfl)) trivial ?_
    refine pj_J.go (oX15_does G) 4 rfl ⟨by exact hs, trivial⟩ ?_
    refine pj_J.go1 (pc := 72) (oX15_does G) rfl (po_getD (lo := 5) (hi := 17) (k := 1) (n := 75) (by exact ha) (by decide) (by rfl)) trivial ?_
    refine pj_J.go (oX15_does G) 1 rfl ⟨by exact hs, trivial⟩ ?_
    refine pj_J.cal0 kX15_does_76 (c_X1_floorOf (sx_L ((fr_put (sx_R c 1) s (((sx_L (sx_R c 1) 0 s.toNatClampNeg) * (sx_l (sx_R c 1) 11)) + ((sx_l (sx_R c 1) 10) * (sx_L (sx_R c 1) 1 s.toNatClampNeg))) ((sx_L (sx_R c 1) 1 s.toNatClampNeg) * (sx_l (sx_R c 1) 11))).2) 0 s.toNatClampNeg) (sx_L ((fr_put (sx_R c 1) s (((sx_L (sx_R c 1) 0 s.toNatClampNeg) * (sx_l (sx_R c 1) 11)) + ((sx_l (sx_R c 1) 10) * (sx_L (sx_R c 1) 1 s.toNatClampNeg))) ((sx_L (sx_R c 1) 1 s.toNatClampNeg) * (sx_l (sx_R c 1) 11))).2) 1 s.toNatClampNeg) (hO.2.2.1 hc53)) trivial pj_le0 pj_le0 pj_le0 ?_
    refine pj_J.go (oX15_does G) 5 rfl trivial ?_
    refine pj_J.go1 (pc := 86) (oX15_does G) rfl (po_getD (lo := 5) (hi := 17) (k := 1) (n := 89) (by exact ha) (by decide) (by rfl)) trivial ?_
    refine pj_J.go (oX15_does G) 5 rfl ⟨by exact hs, trivial⟩ ?_
    refine pj_J.go1 (pc := 96) (oX15_does G) rfl (po_getD (lo := 5) (hi := 17) (k := 1) (n := 99) (by exact ha) (by decide) (by rfl)) trivial ?_
    refine pj_J.go (oX15_does G) 8 rfl ⟨by exact hs, trivial⟩ ?_
    refine pj_J.go1 (pc := 111) (oX15_does G) rfl (po_getD (lo := 5) (hi := 17) (k := 1) (n := 114) (by exact ha) (by decide) (by rfl)) trivial ?_
    refine pj_J.go (oX15_does G) 4 rfl ⟨by exact hs, trivial⟩ ?_
    refine pj_J.go1 (pc := 120) (oX15_does G) rfl (po_getD (lo := 5) (hi := 17) (k := 1) (n := 123) (by exact ha) (by decide) (by rfl)) trivial ?_
    refine pj_J.go (oX15_does G) 2 rfl trivial ?_
    refine pj_J.cal0 kX15_does_125 (c_X2_put_1 (c := (sx_sR c 1 (sx_sl (sx_sl ((fr_put (sx_R c 1) s (((sx_L (sx_R c 1) 0 s.toNatClampNeg) * (sx_l (sx_R c 1) 11)) + ((sx_l (sx_R c 1) 10) * (sx_L (sx_R c 1) 1 s.toNatClampNeg))) ((sx_L (sx_R c 1) 1 s.toNatClampNeg) * (sx_l (sx_R c 1) 11))).2) 10 ((sx_L ((fr_put (sx_R c 1) s (((sx_L (sx_R c 1) 0 s.toNatClampNeg) * (sx_l (sx_R c 1) 11)) + ((sx_l (sx_R c 1) 10) * (sx_L (sx_R c 1) 1 s.toNatClampNeg))) ((sx_L (sx_R c 1) 1 s.toNatClampNeg) * (sx_l (sx_R c 1) 11))).2) 0 s.toNatClampNeg) - ((fc_floor (sx_L ((fr_put (sx_R c 1) s (((sx_L (sx_R c 1) 0 s.toNatClampNeg) * (sx_l (sx_R c 1) 11)) + ((sx_l (sx_R c 1) 10) * (sx_L (sx_R c 1) 1 s.toNatClampNeg))) ((sx_L (sx_R c 1) 1 s.toNatClampNeg) * (sx_l (sx_R c 1) 11))).2) 0 s.toNatClampNeg) (sx_L ((fr_put (sx_R c 1) s (((sx_L (sx_R c 1) 0 s.toNatClampNeg) * (sx_l (sx_R c 1) 11)) + ((sx_l (sx_R c 1) 10) * (sx_L (sx_R c 1) 1 s.toNatClampNeg))) ((sx_L (sx_R c 1) 1 s.toNatClampNeg) * (sx_l (sx_R c 1) 11))).2) 1 s.toNatClampNeg)) * (sx_L ((fr_put (sx_R c 1) s (((sx_L (sx_R c 1) 0 s.toNatClampNeg) * (sx_l (sx_R c 1) 11)) + ((sx_l (sx_R c 1) 10) * (sx_L (sx_R c 1) 1 s.toNatClampNeg))) ((sx_L (sx_R c 1) 1 s.toNatClampNeg) * (sx_l (sx_R c 1) 11))).2) 1 s.toNatClampNeg)))) 11 (sx_L ((fr_put (sx_R c 1) s (((sx_L (sx_R c 1) 0 s.toNatClampNeg) * (sx_l (sx_R c 1) 11)) + ((sx_l (sx_R c 1) 10) * (sx_L (sx_R c 1) 1 s.toNatClampNeg))) ((sx_L (sx_R c 1) 1 s.toNatClampNeg) * (sx_l (sx_R c 1) 11))).2) 1 s.toNatClampNeg)))) s (fc_floor (sx_L ((fr_put (sx_R c 1) s (((sx_L (sx_R c 1) 0 s.toNatClampNeg) * (sx_l (sx_R c 1) 11)) + ((sx_l (sx_R c 1) 10) * (sx_L (sx_R c 1) 1 s.toNatClampNeg))) ((sx_L (sx_R c 1) 1 s.toNatClampNeg) * (sx_l (sx_R c 1) 11))).2) 0 s.toNatClampNeg) (sx_L ((fr_put (sx_R c 1) s (((sx_L (sx_R c 1) 0 s.toNatClampNeg) * (sx_l (sx_R c 1) 11)) + ((sx_l (sx_R c 1) 10) * (sx_L (sx_R c 1) 1 s.toNatClampNeg))) ((sx_L (sx_R c 1) 1 s.toNatClampNeg) * (sx_l (sx_R c 1) 11))).2) 1 s.toNatClampNeg)) (1 : Int64) hs (hO.2.2.2.1 hc53) (by decide)) ⟨_, _, _, rfl, rfl⟩ pj_le0 pj_le0 pj_le0 ?_
    refine pj_iret dX15_does_128 rfl ?_
    show _ = _ ∧ _ = _
    have e : fa_carry c.1 (sx_R c 1) s t v = ((fr_put (sx_sl (sx_sl ((fr_put (sx_R c 1) s (((sx_L (sx_R c 1) 0 s.toNatClampNeg) * (sx_l (sx_R c 1) 11)) + ((sx_l (sx_R c 1) 10) * (sx_L (sx_R c 1) 1 s.toNatClampNeg))) ((sx_L (sx_R c 1) 1 s.toNatClampNeg) * (sx_l (sx_R c 1) 11))).2) 10 ((sx_L ((fr_put (sx_R c 1) s (((sx_L (sx_R c 1) 0 s.toNatClampNeg) * (sx_l (sx_R c 1) 11)) + ((sx_l (sx_R c 1) 10) * (sx_L (sx_R c 1) 1 s.toNatClampNeg))) ((sx_L (sx_R c 1) 1 s.toNatClampNeg) * (sx_l (sx_R c 1) 11))).2) 0 s.toNatClampNeg) - ((fc_floor (sx_L ((fr_put (sx_R c 1) s (((sx_L (sx_R c 1) 0 s.toNatClampNeg) * (sx_l (sx_R c 1) 11)) + ((sx_l (sx_R c 1) 10) * (sx_L (sx_R c 1) 1 s.toNatClampNeg))) ((sx_L (sx_R c 1) 1 s.toNatClampNeg) * (sx_l (sx_R c 1) 11))).2) 0 s.toNatClampNeg) (sx_L ((fr_put (sx_R c 1) s (((sx_L (sx_R c 1) 0 s.toNatClampNeg) * (sx_l (sx_R c 1) 11)) + ((sx_l (sx_R c 1) 10) * (sx_L (sx_R c 1) 1 s.toNatClampNeg))) ((sx_L (sx_R c 1) 1 s.toNatClampNeg) * (sx_l (sx_R c 1) 11))).2) 1 s.toNatClampNeg)) * (sx_L ((fr_put (sx_R c 1) s (((sx_L (sx_R c 1) 0 s.toNatClampNeg) * (sx_l (sx_R c 1) 11)) + ((sx_l (sx_R c 1) 10) * (sx_L (sx_R c 1) 1 s.toNatClampNeg))) ((sx_L (sx_R c 1) 1 s.toNatClampNeg) * (sx_l (sx_R c 1) 11))).2) 1 s.toNatClampNeg)))) 11 (sx_L ((fr_put (sx_R c 1) s (((sx_L (sx_R c 1) 0 s.toNatClampNeg) * (sx_l (sx_R c 1) 11)) + ((sx_l (sx_R c 1) 10) * (sx_L (sx_R c 1) 1 s.toNatClampNeg))) ((sx_L (sx_R c 1) 1 s.toNatClampNeg) * (sx_l (sx_R c 1) 11))).2) 1 s.toNatClampNeg)) s (fc_floor (sx_L ((fr_put (sx_R c 1) s (((sx_L (sx_R c 1) 0 s.toNatClampNeg) * (sx_l (sx_R c 1) 11)) + ((sx_l (sx_R c 1) 10) * (sx_L (sx_R c 1) 1 s.toNatClampNeg))) ((sx_L (sx_R c 1) 1 s.toNatClampNeg) * (sx_l (sx_R c 1) 11))).2) 0 s.toNatClampNeg) (sx_L ((fr_put (sx_R c 1) s (((sx_L (sx_R c 1) 0 s.toNatClampNeg) * (sx_l (sx_R c 1) 11)) + ((sx_l (sx_R c 1) 10) * (sx_L (sx_R c 1) 1 s.toNatClampNeg))) ((sx_L (sx_R c 1) 1 s.toNatClampNeg) * (sx_l (sx_R c 1) 11))).2) 1 s.toNatClampNeg)) (1 : Int64)).1, ((fr_put (sx_sl (sx_sl ((fr_put (sx_R c 1) s (((sx_L (sx_R c 1) 0 s.toNatClampNeg) * (sx_l (sx_R c 1) 11)) + ((sx_l (sx_R c 1) 10) * (sx_L (sx_R c 1) 1 s.toNatClampNeg))) ((sx_L (sx_R c 1) 1 s.toNatClampNeg) * (sx_l (sx_R c 1) 11))).2) 10 ((sx_L ((fr_put (sx_R c 1) s (((sx_L (sx_R c 1) 0 s.toNatClampNeg) * (sx_l (sx_R c 1) 11)) + ((sx_l (sx_R c 1) 10) * (sx_L (sx_R c 1) 1 s.toNatClampNeg))) ((sx_L (sx_R c 1) 1 s.toNatClampNeg) * (sx_l (sx_R c 1) 11))).2) 0 s.toNatClampNeg) - ((fc_floor (sx_L ((fr_put (sx_R c 1) s (((sx_L (sx_R c 1) 0 s.toNatClampNeg) * (sx_l (sx_R c 1) 11)) + ((sx_l (sx_R c 1) 10) * (sx_L (sx_R c 1) 1 s.toNatClampNeg))) ((sx_L (sx_R c 1) 1 s.toNatClampNeg) * (sx_l (sx_R c 1) 11))).2) 0 s.toNatClampNeg) (sx_L ((fr_put (sx_R c 1) s (((sx_L (sx_R c 1) 0 s.toNatClampNeg) * (sx_l (sx_R c 1) 11)) + ((sx_l (sx_R c 1) 10) * (sx_L (sx_R c 1) 1 s.toNatClampNeg))) ((sx_L (sx_R c 1) 1 s.toNatClampNeg) * (sx_l (sx_R c 1) 11))).2) 1 s.toNatClampNeg)) * (sx_L ((fr_put (sx_R c 1) s (((sx_L (sx_R c 1) 0 s.toNatClampNeg) * (sx_l (sx_R c 1) 11)) + ((sx_l (sx_R c 1) 10) * (sx_L (sx_R c 1) 1 s.toNatClampNeg))) ((sx_L (sx_R c 1) 1 s.toNatClampNeg) * (sx_l (sx_R c 1) 11))).2) 1 s.toNatClampNeg)))) 11 (sx_L ((fr_put (sx_R c 1) s (((sx_L (sx_R c 1) 0 s.toNatClampNeg) * (sx_l (sx_R c 1) 11)) + ((sx_l (sx_R c 1) 10) * (sx_L (sx_R c 1) 1 s.toNatClampNeg))) ((sx_L (sx_R c 1) 1 s.toNatClampNeg) * (sx_l (sx_R c 1) 11))).2) 1 s.toNatClampNeg)) s (fc_floor (sx_L ((fr_put (sx_R c 1) s (((sx_L (sx_R c 1) 0 s.toNatClampNeg) * (sx_l (sx_R c 1) 11)) + ((sx_l (sx_R c 1) 10) * (sx_L (sx_R c 1) 1 s.toNatClampNeg))) ((sx_L (sx_R c 1) 1 s.toNatClampNeg) * (sx_l (sx_R c 1) 11))).2) 0 s.toNatClampNeg) (sx_L ((fr_put (sx_R c 1) s (((sx_L (sx_R c 1) 0 s.toNatClampNeg) * (sx_l (sx_R c 1) 11)) + ((sx_l (sx_R c 1) 10) * (sx_L (sx_R c 1) 1 s.toNatClampNeg))) ((sx_L (sx_R c 1) 1 s.toNatClampNeg) * (sx_l (sx_R c 1) 11))).2) 1 s.toNatClampNeg)) (1 : Int64)).2)) := by unfold fa_carry; rw [if_pos (show (fr_put (sx_R c 1) s (((sx_L (sx_R c 1) 0 s.toNatClampNeg) * (sx_l (sx_R c 1) 11)) + ((sx_l (sx_R c 1) 10) * (sx_L (sx_R c 1) 1 s.toNatClampNeg))) ((sx_L (sx_R c 1) 1 s.toNatClampNeg) * (sx_l (sx_R c 1) 11))).1 = (0 : Int32) from hc53)]
    rw [e]
    try dsimp only
    exact ⟨rfl, rfl⟩
  · skip
    refine pj_J.go (oX15_does G) 1 rfl trivial ?_
    refine pj_iret dX15_does_57 rfl ?_
    show _ = _ ∧ _ = _
    have e : fa_carry c.1 (sx_R c 1) s t v = ((fr_put (sx_R c 1) s (((sx_L (sx_R c 1) 0 s.toNatClampNeg) * (sx_l (sx_R c 1) 11)) + ((sx_l (sx_R c 1) 10) * (sx_L (sx_R c 1) 1 s.toNatClampNeg))) ((sx_L (sx_R c 1) 1 s.toNatClampNeg) * (sx_l (sx_R c 1) 11))).1, ((fr_put (sx_R c 1) s (((sx_L (sx_R c 1) 0 s.toNatClampNeg) * (sx_l (sx_R c 1) 11)) + ((sx_l (sx_R c 1) 10) * (sx_L (sx_R c 1) 1 s.toNatClampNeg))) ((sx_L (sx_R c 1) 1 s.toNatClampNeg) * (sx_l (sx_R c 1) 11))).2)) := by unfold fa_carry; rw [if_neg (show ¬ ((fr_put (sx_R c 1) s (((sx_L (sx_R c 1) 0 s.toNatClampNeg) * (sx_l (sx_R c 1) 11)) + ((sx_l (sx_R c 1) 10) * (sx_L (sx_R c 1) 1 s.toNatClampNeg))) ((sx_L (sx_R c 1) 1 s.toNatClampNeg) * (sx_l (sx_R c 1) 11))).1 = (0 : Int32)) from hc53)]
    rw [e]
    try dsimp only
    exact ⟨rfl, rfl⟩
theorem c_X15_does_2 {G : pj_G} {d : Nat} {c : sx_C} {m : sx_M} {o : Nat → Int64} {D : pj_H} {i : Nat} {kd s t v : Int32} (ha : D[i]? = some (.inr (13, [.int kd, .int s, .int t, .int v]))) (hs : vp_in s 8) (hO : fa_carry_ok c.1 (sx_R c 2) s t v) : pj_Rt G mX15_does (d + 3) [.ref (i + 98), .ref 32] (sx_mk c m o D) 0 0 (some (.int (fa_carry c.1 (sx_R c 2) s t v).1)) (sx_mk (sx_sR c 2 ((fa_carry c.1 (sx_R c 2) s t v).2)) m o D) := by
  refine pj_Cn.start ?_
  refine pj_J.go (oX15_does G) 2 rfl trivial ?_
  refine pj_J.go1 (pc := 2) (oX15_does G) rfl (po_getD (lo := 5) (hi := 17) (k := 1) (n := 5) (by exact ha) (by decide) (by rfl)) trivial ?_
  refine pj_J.go (oX15_does G) 3 rfl trivial ?_
  refine pj_J.go1 (pc := 10) (oX15_does G) rfl (po_getD (lo := 5) (hi := 17) (k := 1) (n := 13) (by exact ha) (by decide) (by rfl)) trivial ?_
  refine pj_J.go (oX15_does G) 9 rfl ⟨by exact hs, trivial⟩ ?_
  refine pj_J.go1 (pc := 28) (oX15_does G) rfl (po_getD (lo := 5) (hi := 17) (k := 1) (n := 31) (by exact ha) (by decide) (by rfl)) trivial ?_
  refine pj_J.go (oX15_does G) 6 rfl ⟨by exact hs, trivial⟩ ?_
  refine pj_J.go1 (pc := 39) (oX15_does G) rfl (po_getD (lo := 5) (hi := 17) (k := 1) (n := 42) (by exact ha) (by decide) (by rfl)) trivial ?_
  refine pj_J.go (oX15_does G) 4 rfl ⟨by exact hs, trivial⟩ ?_
  refine pj_J.cal0 kX15_does_48 (c_X2_put_2 (c := c) s (((sx_L (sx_R c 2) 0 s.toNatClampNeg) * (sx_l (sx_R c 2) 11)) + ((sx_l (sx_R c 2) 10) * (sx_L (sx_R c 2) 1 s.toNatClampNeg))) ((sx_L (sx_R c 2) 1 s.toNatClampNeg) * (sx_l (sx_R c 2) 11)) hs (hO.1) (hO.2.1)) ⟨_, _, _, rfl, rfl⟩ pj_le0 pj_le0 pj_le0 ?_
  refine pj_J.go (oX15_does G) 3 rfl trivial ?_
  refine pj_J.ite (fun hc53 => ?_) (fun hc53 => ?_)
  · skip
    refine pj_J.go (oX15_does G) 3 rfl trivial ?_
    refine pj_J.go1 (pc := 63) (oX15_does G) rfl (po_getD (lo := 5) (hi := 17) (k := 1) (n := 66) (by exact ha) (by decide) (by rfl)) trivial ?_
    refine pj_J.go (oX15_does G) 4 rfl ⟨by exact hs, trivial⟩ ?_
    refine pj_J.go1 (pc := 72) (oX15_does G) rfl (po_getD (lo := 5) (hi := 17) (k := 1) (n := 75) (by exact ha) (by decide) (by rfl)) trivial ?_
    refine pj_J.go (oX15_does G) 1 rfl ⟨by exact hs, trivial⟩ ?_
    refine pj_J.cal0 kX15_does_76 (c_X1_floorOf (sx_L ((fr_put (sx_R c 2) s (((sx_L (sx_R c 2) 0 s.toNatClampNeg) * (sx_l (sx_R c 2) 11)) + ((sx_l (sx_R c 2) 10) * (sx_L (sx_R c 2) 1 s.toNatClampNeg))) ((sx_L (sx_R c 2) 1 s.toNatClampNeg) * (sx_l (sx_R c 2) 11))).2) 0 s.toNatClampNeg) (sx_L ((fr_put (sx_R c 2) s (((sx_L (sx_R c 2) 0 s.toNatClampNeg) * (sx_l (sx_R c 2) 11)) + ((sx_l (sx_R c 2) 10) * (sx_L (sx_R c 2) 1 s.toNatClampNeg))) ((sx_L (sx_R c 2) 1 s.toNatClampNeg) * (sx_l (sx_R c 2) 11))).2) 1 s.toNatClampNeg) (hO.2.2.1 hc53)) trivial pj_le0 pj_le0 pj_le0 ?_
    refine pj_J.go (oX15_does G) 5 rfl trivial ?_
    refine pj_J.go1 (pc := 86) (oX15_does G) rfl (po_getD (lo := 5) (hi := 17) (k := 1) (n := 89) (by exact ha) (by decide) (by rfl)) trivial ?_
    refine pj_J.go (oX15_does G) 5 rfl ⟨by exact hs, trivial⟩ ?_
    refine pj_J.go1 (pc := 96) (oX15_does G) rfl (po_getD (lo := 5) (hi := 17) (k := 1) (n := 99) (by exact ha) (by decide) (by rfl)) trivial ?_
    refine pj_J.go (oX15_does G) 8 rfl ⟨by exact hs, trivial⟩ ?_
    refine pj_J.go1 (pc := 111) (oX15_does G) rfl (po_getD (lo := 5) (hi := 17) (k := 1) (n := 114) (by exact ha) (by decide) (by rfl)) trivial ?_
    refine pj_J.go (oX15_does G) 4 rfl ⟨by exact hs, trivial⟩ ?_
    refine pj_J.go1 (pc := 120) (oX15_does G) rfl (po_getD (lo := 5) (hi := 17) (k := 1) (n := 123) (by exact ha) (by decide) (by rfl)) trivial ?_
    refine pj_J.go (oX15_does G) 2 rfl trivial ?_
    refine pj_J.cal0 kX15_does_125 (c_X2_put_2 (c := (sx_sR c 2 (sx_sl (sx_sl ((fr_put (sx_R c 2) s (((sx_L (sx_R c 2) 0 s.toNatClampNeg) * (sx_l (sx_R c 2) 11)) + ((sx_l (sx_R c 2) 10) * (sx_L (sx_R c 2) 1 s.toNatClampNeg))) ((sx_L (sx_R c 2) 1 s.toNatClampNeg) * (sx_l (sx_R c 2) 11))).2) 10 ((sx_L ((fr_put (sx_R c 2) s (((sx_L (sx_R c 2) 0 s.toNatClampNeg) * (sx_l (sx_R c 2) 11)) + ((sx_l (sx_R c 2) 10) * (sx_L (sx_R c 2) 1 s.toNatClampNeg))) ((sx_L (sx_R c 2) 1 s.toNatClampNeg) * (sx_l (sx_R c 2) 11))).2) 0 s.toNatClampNeg) - ((fc_floor (sx_L ((fr_put (sx_R c 2) s (((sx_L (sx_R c 2) 0 s.toNatClampNeg) * (sx_l (sx_R c 2) 11)) + ((sx_l (sx_R c 2) 10) * (sx_L (sx_R c 2) 1 s.toNatClampNeg))) ((sx_L (sx_R c 2) 1 s.toNatClampNeg) * (sx_l (sx_R c 2) 11))).2) 0 s.toNatClampNeg) (sx_L ((fr_put (sx_R c 2) s (((sx_L (sx_R c 2) 0 s.toNatClampNeg) * (sx_l (sx_R c 2) 11)) + ((sx_l (sx_R c 2) 10) * (sx_L (sx_R c 2) 1 s.toNatClampNeg))) ((sx_L (sx_R c 2) 1 s.toNatClampNeg) * (sx_l (sx_R c 2) 11))).2) 1 s.toNatClampNeg)) * (sx_L ((fr_put (sx_R c 2) s (((sx_L (sx_R c 2) 0 s.toNatClampNeg) * (sx_l (sx_R c 2) 11)) + ((sx_l (sx_R c 2) 10) * (sx_L (sx_R c 2) 1 s.toNatClampNeg))) ((sx_L (sx_R c 2) 1 s.toNatClampNeg) * (sx_l (sx_R c 2) 11))).2) 1 s.toNatClampNeg)))) 11 (sx_L ((fr_put (sx_R c 2) s (((sx_L (sx_R c 2) 0 s.toNatClampNeg) * (sx_l (sx_R c 2) 11)) + ((sx_l (sx_R c 2) 10) * (sx_L (sx_R c 2) 1 s.toNatClampNeg))) ((sx_L (sx_R c 2) 1 s.toNatClampNeg) * (sx_l (sx_R c 2) 11))).2) 1 s.toNatClampNeg)))) s (fc_floor (sx_L ((fr_put (sx_R c 2) s (((sx_L (sx_R c 2) 0 s.toNatClampNeg) * (sx_l (sx_R c 2) 11)) + ((sx_l (sx_R c 2) 10) * (sx_L (sx_R c 2) 1 s.toNatClampNeg))) ((sx_L (sx_R c 2) 1 s.toNatClampNeg) * (sx_l (sx_R c 2) 11))).2) 0 s.toNatClampNeg) (sx_L ((fr_put (sx_R c 2) s (((sx_L (sx_R c 2) 0 s.toNatClampNeg) * (sx_l (sx_R c 2) 11)) + ((sx_l (sx_R c 2) 10) * (sx_L (sx_R c 2) 1 s.toNatClampNeg))) ((sx_L (sx_R c 2) 1 s.toNatClampNeg) * (sx_l (sx_R c 2) 11))).2) 1 s.toNatClampNeg)) (1 : Int64) hs (hO.2.2.2.1 hc53) (by decide)) ⟨_, _, _, rfl, rfl⟩ pj_le0 pj_le0 pj_le0 ?_
    refine pj_iret dX15_does_128 rfl ?_
    show _ = _ ∧ _ = _
    have e : fa_carry c.1 (sx_R c 2) s t v = ((fr_put (sx_sl (sx_sl ((fr_put (sx_R c 2) s (((sx_L (sx_R c 2) 0 s.toNatClampNeg) * (sx_l (sx_R c 2) 11)) + ((sx_l (sx_R c 2) 10) * (sx_L (sx_R c 2) 1 s.toNatClampNeg))) ((sx_L (sx_R c 2) 1 s.toNatClampNeg) * (sx_l (sx_R c 2) 11))).2) 10 ((sx_L ((fr_put (sx_R c 2) s (((sx_L (sx_R c 2) 0 s.toNatClampNeg) * (sx_l (sx_R c 2) 11)) + ((sx_l (sx_R c 2) 10) * (sx_L (sx_R c 2) 1 s.toNatClampNeg))) ((sx_L (sx_R c 2) 1 s.toNatClampNeg) * (sx_l (sx_R c 2) 11))).2) 0 s.toNatClampNeg) - ((fc_floor (sx_L ((fr_put (sx_R c 2) s (((sx_L (sx_R c 2) 0 s.toNatClampNeg) * (sx_l (sx_R c 2) 11)) + ((sx_l (sx_R c 2) 10) * (sx_L (sx_R c 2) 1 s.toNatClampNeg))) ((sx_L (sx_R c 2) 1 s.toNatClampNeg) * (sx_l (sx_R c 2) 11))).2) 0 s.toNatClampNeg) (sx_L ((fr_put (sx_R c 2) s (((sx_L (sx_R c 2) 0 s.toNatClampNeg) * (sx_l (sx_R c 2) 11)) + ((sx_l (sx_R c 2) 10) * (sx_L (sx_R c 2) 1 s.toNatClampNeg))) ((sx_L (sx_R c 2) 1 s.toNatClampNeg) * (sx_l (sx_R c 2) 11))).2) 1 s.toNatClampNeg)) * (sx_L ((fr_put (sx_R c 2) s (((sx_L (sx_R c 2) 0 s.toNatClampNeg) * (sx_l (sx_R c 2) 11)) + ((sx_l (sx_R c 2) 10) * (sx_L (sx_R c 2) 1 s.toNatClampNeg))) ((sx_L (sx_R c 2) 1 s.toNatClampNeg) * (sx_l (sx_R c 2) 11))).2) 1 s.toNatClampNeg)))) 11 (sx_L ((fr_put (sx_R c 2) s (((sx_L (sx_R c 2) 0 s.toNatClampNeg) * (sx_l (sx_R c 2) 11)) + ((sx_l (sx_R c 2) 10) * (sx_L (sx_R c 2) 1 s.toNatClampNeg))) ((sx_L (sx_R c 2) 1 s.toNatClampNeg) * (sx_l (sx_R c 2) 11))).2) 1 s.toNatClampNeg)) s (fc_floor (sx_L ((fr_put (sx_R c 2) s (((sx_L (sx_R c 2) 0 s.toNatClampNeg) * (sx_l (sx_R c 2) 11)) + ((sx_l (sx_R c 2) 10) * (sx_L (sx_R c 2) 1 s.toNatClampNeg))) ((sx_L (sx_R c 2) 1 s.toNatClampNeg) * (sx_l (sx_R c 2) 11))).2) 0 s.toNatClampNeg) (sx_L ((fr_put (sx_R c 2) s (((sx_L (sx_R c 2) 0 s.toNatClampNeg) * (sx_l (sx_R c 2) 11)) + ((sx_l (sx_R c 2) 10) * (sx_L (sx_R c 2) 1 s.toNatClampNeg))) ((sx_L (sx_R c 2) 1 s.toNatClampNeg) * (sx_l (sx_R c 2) 11))).2) 1 s.toNatClampNeg)) (1 : Int64)).1, ((fr_put (sx_sl (sx_sl ((fr_put (sx_R c 2) s (((sx_L (sx_R c 2) 0 s.toNatClampNeg) * (sx_l (sx_R c 2) 11)) + ((sx_l (sx_R c 2) 10) * (sx_L (sx_R c 2) 1 s.toNatClampNeg))) ((sx_L (sx_R c 2) 1 s.toNatClampNeg) * (sx_l (sx_R c 2) 11))).2) 10 ((sx_L ((fr_put (sx_R c 2) s (((sx_L (sx_R c 2) 0 s.toNatClampNeg) * (sx_l (sx_R c 2) 11)) + ((sx_l (sx_R c 2) 10) * (sx_L (sx_R c 2) 1 s.toNatClampNeg))) ((sx_L (sx_R c 2) 1 s.toNatClampNeg) * (sx_l (sx_R c 2) 11))).2) 0 s.toNatClampNeg) - ((fc_floor (sx_L ((fr_put (sx_R c 2) s (((sx_L (sx_R c 2) 0 s.toNatClampNeg) * (sx_l (sx_R c 2) 11)) + ((sx_l (sx_R c 2) 10) * (sx_L (sx_R c 2) 1 s.toNatClampNeg))) ((sx_L (sx_R c 2) 1 s.toNatClampNeg) * (sx_l (sx_R c 2) 11))).2) 0 s.toNatClampNeg) (sx_L ((fr_put (sx_R c 2) s (((sx_L (sx_R c 2) 0 s.toNatClampNeg) * (sx_l (sx_R c 2) 11)) + ((sx_l (sx_R c 2) 10) * (sx_L (sx_R c 2) 1 s.toNatClampNeg))) ((sx_L (sx_R c 2) 1 s.toNatClampNeg) * (sx_l (sx_R c 2) 11))).2) 1 s.toNatClampNeg)) * (sx_L ((fr_put (sx_R c 2) s (((sx_L (sx_R c 2) 0 s.toNatClampNeg) * (sx_l (sx_R c 2) 11)) + ((sx_l (sx_R c 2) 10) * (sx_L (sx_R c 2) 1 s.toNatClampNeg))) ((sx_L (sx_R c 2) 1 s.toNatClampNeg) * (sx_l (sx_R c 2) 11))).2) 1 s.toNatClampNeg)))) 11 (sx_L ((fr_put (sx_R c 2) s (((sx_L (sx_R c 2) 0 s.toNatClampNeg) * (sx_l (sx_R c 2) 11)) + ((sx_l (sx_R c 2) 10) * (sx_L (sx_R c 2) 1 s.toNatClampNeg))) ((sx_L (sx_R c 2) 1 s.toNatClampNeg) * (sx_l (sx_R c 2) 11))).2) 1 s.toNatClampNeg)) s (fc_floor (sx_L ((fr_put (sx_R c 2) s (((sx_L (sx_R c 2) 0 s.toNatClampNeg) * (sx_l (sx_R c 2) 11)) + ((sx_l (sx_R c 2) 10) * (sx_L (sx_R c 2) 1 s.toNatClampNeg))) ((sx_L (sx_R c 2) 1 s.toNatClampNeg) * (sx_l (sx_R c 2) 11))).2) 0 s.toNatClampNeg) (sx_L ((fr_put (sx_R c 2) s (((sx_L (sx_R c 2) 0 s.toNatClampNeg) * (sx_l (sx_R c 2) 11)) + ((sx_l (sx_R c 2) 10) * (sx_L (sx_R c 2) 1 s.toNatClampNeg))) ((sx_L (sx_R c 2) 1 s.toNatClampNeg) * (sx_l (sx_R c 2) 11))).2) 1 s.toNatClampNeg)) (1 : Int64)).2)) := by unfold fa_carry; rw [if_pos (show (fr_put (sx_R c 2) s (((sx_L (sx_R c 2) 0 s.toNatClampNeg) * (sx_l (sx_R c 2) 11)) + ((sx_l (sx_R c 2) 10) * (sx_L (sx_R c 2) 1 s.toNatClampNeg))) ((sx_L (sx_R c 2) 1 s.toNatClampNeg) * (sx_l (sx_R c 2) 11))).1 = (0 : Int32) from hc53)]
    rw [e]
    try dsimp only
    exact ⟨rfl, rfl⟩
  · skip
    refine pj_J.go (oX15_does G) 1 rfl trivial ?_
    refine pj_iret dX15_does_57 rfl ?_
    show _ = _ ∧ _ = _
    have e : fa_carry c.1 (sx_R c 2) s t v = ((fr_put (sx_R c 2) s (((sx_L (sx_R c 2) 0 s.toNatClampNeg) * (sx_l (sx_R c 2) 11)) + ((sx_l (sx_R c 2) 10) * (sx_L (sx_R c 2) 1 s.toNatClampNeg))) ((sx_L (sx_R c 2) 1 s.toNatClampNeg) * (sx_l (sx_R c 2) 11))).1, ((fr_put (sx_R c 2) s (((sx_L (sx_R c 2) 0 s.toNatClampNeg) * (sx_l (sx_R c 2) 11)) + ((sx_l (sx_R c 2) 10) * (sx_L (sx_R c 2) 1 s.toNatClampNeg))) ((sx_L (sx_R c 2) 1 s.toNatClampNeg) * (sx_l (sx_R c 2) 11))).2)) := by unfold fa_carry; rw [if_neg (show ¬ ((fr_put (sx_R c 2) s (((sx_L (sx_R c 2) 0 s.toNatClampNeg) * (sx_l (sx_R c 2) 11)) + ((sx_l (sx_R c 2) 10) * (sx_L (sx_R c 2) 1 s.toNatClampNeg))) ((sx_L (sx_R c 2) 1 s.toNatClampNeg) * (sx_l (sx_R c 2) 11))).1 = (0 : Int32)) from hc53)]
    rw [e]
    try dsimp only
    exact ⟨rfl, rfl⟩
def fa_cap (w u : sx_M) (s t v : Int32) : Int32 × sx_M := if t = (0 : Int32) then (if (sx_L u 0 s.toNatClampNeg) ≤ (v.toInt64 * (sx_L u 1 s.toNatClampNeg)) then ((0 : Int32), u) else ((fr_put u s v.toInt64 (1 : Int64)).1, ((fr_put u s v.toInt64 (1 : Int64)).2))) else (if (v.toInt64 * (sx_L u 1 s.toNatClampNeg)) ≤ (sx_L u 0 s.toNatClampNeg) then ((0 : Int32), u) else ((fr_put u s v.toInt64 (1 : Int64)).1, ((fr_put u s v.toInt64 (1 : Int64)).2)))
def fa_cap_ok (w u : sx_M) (s t v : Int32) : Prop := (t = (0 : Int32) → ¬ ((sx_L u 0 s.toNatClampNeg) ≤ (v.toInt64 * (sx_L u 1 s.toNatClampNeg))) → -9223372036854775807 ≤ v.toInt64) ∧ (¬ (t = (0 : Int32)) → ¬ ((v.toInt64 * (sx_L u 1 s.toNatClampNeg)) ≤ (sx_L u 0 s.toNatClampNeg)) → -9223372036854775807 ≤ v.toInt64) ∧ True
theorem c_X16_does_0 {G : pj_G} {d : Nat} {c : sx_C} {m : sx_M} {o : Nat → Int64} {D : pj_H} {i : Nat} {kd s t v : Int32} (ha : D[i]? = some (.inr (14, [.int kd, .int s, .int t, .int v]))) (hs : vp_in s 8) (hO : fa_cap_ok c.1 (sx_R c 0) s t v) : pj_Rt G mX16_does (d + 3) [.ref (i + 98), .ref 10] (sx_mk c m o D) 0 0 (some (.int (fa_cap c.1 (sx_R c 0) s t v).1)) (sx_mk (sx_sR c 0 ((fa_cap c.1 (sx_R c 0) s t v).2)) m o D) := by
  refine pj_Cn.start ?_
  refine pj_J.go (oX16_does G) 1 rfl trivial ?_
  refine pj_J.go1 (pc := 1) (oX16_does G) rfl (po_getD (lo := 5) (hi := 17) (k := 3) (n := 4) (by exact ha) (by decide) (by rfl)) trivial ?_
  refine pj_J.go (oX16_does G) 4 rfl trivial ?_
  refine pj_J.go1 (pc := 10) (oX16_does G) rfl (po_getD (lo := 5) (hi := 17) (k := 1) (n := 13) (by exact ha) (by decide) (by rfl)) trivial ?_
  refine pj_J.go (oX16_does G) 4 rfl ⟨by exact hs, trivial⟩ ?_
  refine pj_J.go1 (pc := 17) (oX16_does G) rfl (po_getD (lo := 5) (hi := 17) (k := 2) (n := 20) (by exact ha) (by decide) (by rfl)) trivial ?_
  refine pj_J.go (oX16_does G) 1 rfl trivial ?_
  refine pj_J.ite (fun hc20 => ?_) (fun hc20 => ?_)
  · skip
    refine pj_J.go (oX16_does G) 3 rfl trivial ?_
    refine pj_J.go1 (pc := 28) (oX16_does G) rfl (po_getD (lo := 5) (hi := 17) (k := 1) (n := 31) (by exact ha) (by decide) (by rfl)) trivial ?_
    refine pj_J.go (oX16_does G) 4 rfl ⟨by exact hs, trivial⟩ ?_
    refine pj_J.ite (fun hc34 => ?_) (fun hc34 => ?_)
    · simp only [pj_lc_le] at hc34
      refine pj_J.go (oX16_does G) 1 rfl trivial ?_
      refine pj_iret dX16_does_70 rfl ?_
      show _ = _ ∧ _ = _
      have e : fa_cap c.1 (sx_R c 0) s t v = ((0 : Int32), (sx_R c 0)) := by unfold fa_cap; rw [if_pos (show t = (0 : Int32) from hc20), if_pos (show (sx_L (sx_R c 0) 0 s.toNatClampNeg) ≤ (v.toInt64 * (sx_L (sx_R c 0) 1 s.toNatClampNeg)) from hc34)]
      rw [e]
      try dsimp only
      exact ⟨rfl, rfl⟩
    · simp only [pj_lc_le] at hc34
      refine pj_J.go (oX16_does G) 3 rfl trivial ?_
      refine pj_J.go1 (pc := 56) (oX16_does G) rfl (po_getD (lo := 5) (hi := 17) (k := 1) (n := 59) (by exact ha) (by decide) (by rfl)) trivial ?_
      refine pj_J.go (oX16_does G) 1 rfl trivial ?_
      refine pj_J.go1 (pc := 60) (oX16_does G) rfl (po_getD (lo := 5) (hi := 17) (k := 3) (n := 63) (by exact ha) (by decide) (by rfl)) trivial ?_
      refine pj_J.go (oX16_does G) 2 rfl trivial ?_
      refine pj_J.cal0 kX16_does_65 (c_X2_put_0 (c := c) s v.toInt64 (1 : Int64) hs (hO.1 hc20 hc34) (by decide)) ⟨_, _, _, rfl, rfl⟩ pj_le0 pj_le0 pj_le0 ?_
      refine pj_iret dX16_does_68 rfl ?_
      show _ = _ ∧ _ = _
      have e : fa_cap c.1 (sx_R c 0) s t v = ((fr_put (sx_R c 0) s v.toInt64 (1 : Int64)).1, ((fr_put (sx_R c 0) s v.toInt64 (1 : Int64)).2)) := by unfold fa_cap; rw [if_pos (show t = (0 : Int32) from hc20), if_neg (show ¬ ((sx_L (sx_R c 0) 0 s.toNatClampNeg) ≤ (v.toInt64 * (sx_L (sx_R c 0) 1 s.toNatClampNeg))) from hc34)]
      rw [e]
      try dsimp only
      exact ⟨rfl, rfl⟩
  · skip
    refine pj_J.go (oX16_does G) 3 rfl trivial ?_
    refine pj_J.go1 (pc := 45) (oX16_does G) rfl (po_getD (lo := 5) (hi := 17) (k := 1) (n := 48) (by exact ha) (by decide) (by rfl)) trivial ?_
    refine pj_J.go (oX16_does G) 4 rfl ⟨by exact hs, trivial⟩ ?_
    refine pj_J.ite (fun hc51 => ?_) (fun hc51 => ?_)
    · simp only [pj_lc_ge] at hc51
      refine pj_J.go (oX16_does G) 1 rfl trivial ?_
      refine pj_iret dX16_does_70 rfl ?_
      show _ = _ ∧ _ = _
      have e : fa_cap c.1 (sx_R c 0) s t v = ((0 : Int32), (sx_R c 0)) := by unfold fa_cap; rw [if_neg (show ¬ (t = (0 : Int32)) from hc20), if_pos (show (v.toInt64 * (sx_L (sx_R c 0) 1 s.toNatClampNeg)) ≤ (sx_L (sx_R c 0) 0 s.toNatClampNeg) from hc51)]
      rw [e]
      try dsimp only
      exact ⟨rfl, rfl⟩
    · simp only [pj_lc_ge] at hc51
      refine pj_J.go (oX16_does G) 2 rfl trivial ?_
      refine pj_J.go1 (pc := 56) (oX16_does G) rfl (po_getD (lo := 5) (hi := 17) (k := 1) (n := 59) (by exact ha) (by decide) (by rfl)) trivial ?_
      refine pj_J.go (oX16_does G) 1 rfl trivial ?_
      refine pj_J.go1 (pc := 60) (oX16_does G) rfl (po_getD (lo := 5) (hi := 17) (k := 3) (n := 63) (by exact ha) (by decide) (by rfl)) trivial ?_
      refine pj_J.go (oX16_does G) 2 rfl trivial ?_
      refine pj_J.cal0 kX16_does_65 (c_X2_put_0 (c := c) s v.toInt64 (1 : Int64) hs (hO.2.1 hc20 hc51) (by decide)) ⟨_, _, _, rfl, rfl⟩ pj_le0 pj_le0 pj_le0 ?_
      refine pj_iret dX16_does_68 rfl ?_
      show _ = _ ∧ _ = _
      have e : fa_cap c.1 (sx_R c 0) s t v = ((fr_put (sx_R c 0) s v.toInt64 (1 : Int64)).1, ((fr_put (sx_R c 0) s v.toInt64 (1 : Int64)).2)) := by unfold fa_cap; rw [if_neg (show ¬ (t = (0 : Int32)) from hc20), if_neg (show ¬ ((v.toInt64 * (sx_L (sx_R c 0) 1 s.toNatClampNeg)) ≤ (sx_L (sx_R c 0) 0 s.toNatClampNeg)) from hc51)]
      rw [e]
      try dsimp only
      exact ⟨rfl, rfl⟩
theorem c_X16_does_1 {G : pj_G} {d : Nat} {c : sx_C} {m : sx_M} {o : Nat → Int64} {D : pj_H} {i : Nat} {kd s t v : Int32} (ha : D[i]? = some (.inr (14, [.int kd, .int s, .int t, .int v]))) (hs : vp_in s 8) (hO : fa_cap_ok c.1 (sx_R c 1) s t v) : pj_Rt G mX16_does (d + 3) [.ref (i + 98), .ref 21] (sx_mk c m o D) 0 0 (some (.int (fa_cap c.1 (sx_R c 1) s t v).1)) (sx_mk (sx_sR c 1 ((fa_cap c.1 (sx_R c 1) s t v).2)) m o D) := by
  refine pj_Cn.start ?_
  refine pj_J.go (oX16_does G) 1 rfl trivial ?_
  refine pj_J.go1 (pc := 1) (oX16_does G) rfl (po_getD (lo := 5) (hi := 17) (k := 3) (n := 4) (by exact ha) (by decide) (by rfl)) trivial ?_
  refine pj_J.go (oX16_does G) 4 rfl trivial ?_
  refine pj_J.go1 (pc := 10) (oX16_does G) rfl (po_getD (lo := 5) (hi := 17) (k := 1) (n := 13) (by exact ha) (by decide) (by rfl)) trivial ?_
  refine pj_J.go (oX16_does G) 4 rfl ⟨by exact hs, trivial⟩ ?_
  refine pj_J.go1 (pc := 17) (oX16_does G) rfl (po_getD (lo := 5) (hi := 17) (k := 2) (n := 20) (by exact ha) (by decide) (by rfl)) trivial ?_
  refine pj_J.go (oX16_does G) 1 rfl trivial ?_
  refine pj_J.ite (fun hc20 => ?_) (fun hc20 => ?_)
  · skip
    refine pj_J.go (oX16_does G) 3 rfl trivial ?_
    refine pj_J.go1 (pc := 28) (oX16_does G) rfl (po_getD (lo := 5) (hi := 17) (k := 1) (n := 31) (by exact ha) (by decide) (by rfl)) trivial ?_
    refine pj_J.go (oX16_does G) 4 rfl ⟨by exact hs, trivial⟩ ?_
    refine pj_J.ite (fun hc34 => ?_) (fun hc34 => ?_)
    · simp only [pj_lc_le] at hc34
      refine pj_J.go (oX16_does G) 1 rfl trivial ?_
      refine pj_iret dX16_does_70 rfl ?_
      show _ = _ ∧ _ = _
      have e : fa_cap c.1 (sx_R c 1) s t v = ((0 : Int32), (sx_R c 1)) := by unfold fa_cap; rw [if_pos (show t = (0 : Int32) from hc20), if_pos (show (sx_L (sx_R c 1) 0 s.toNatClampNeg) ≤ (v.toInt64 * (sx_L (sx_R c 1) 1 s.toNatClampNeg)) from hc34)]
      rw [e]
      try dsimp only
      exact ⟨rfl, rfl⟩
    · simp only [pj_lc_le] at hc34
      refine pj_J.go (oX16_does G) 3 rfl trivial ?_
      refine pj_J.go1 (pc := 56) (oX16_does G) rfl (po_getD (lo := 5) (hi := 17) (k := 1) (n := 59) (by exact ha) (by decide) (by rfl)) trivial ?_
      refine pj_J.go (oX16_does G) 1 rfl trivial ?_
      refine pj_J.go1 (pc := 60) (oX16_does G) rfl (po_getD (lo := 5) (hi := 17) (k := 3) (n := 63) (by exact ha) (by decide) (by rfl)) trivial ?_
      refine pj_J.go (oX16_does G) 2 rfl trivial ?_
      refine pj_J.cal0 kX16_does_65 (c_X2_put_1 (c := c) s v.toInt64 (1 : Int64) hs (hO.1 hc20 hc34) (by decide)) ⟨_, _, _, rfl, rfl⟩ pj_le0 pj_le0 pj_le0 ?_
      refine pj_iret dX16_does_68 rfl ?_
      show _ = _ ∧ _ = _
      have e : fa_cap c.1 (sx_R c 1) s t v = ((fr_put (sx_R c 1) s v.toInt64 (1 : Int64)).1, ((fr_put (sx_R c 1) s v.toInt64 (1 : Int64)).2)) := by unfold fa_cap; rw [if_pos (show t = (0 : Int32) from hc20), if_neg (show ¬ ((sx_L (sx_R c 1) 0 s.toNatClampNeg) ≤ (v.toInt64 * (sx_L (sx_R c 1) 1 s.toNatClampNeg))) from hc34)]
      rw [e]
      try dsimp only
      exact ⟨rfl, rfl⟩
  · skip
    refine pj_J.go (oX16_does G) 3 rfl trivial ?_
    refine pj_J.go1 (pc := 45) (oX16_does G) rfl (po_getD (lo := 5) (hi := 17) (k := 1) (n := 48) (by exact ha) (by decide) (by rfl)) trivial ?_
    refine pj_J.go (oX16_does G) 4 rfl ⟨by exact hs, trivial⟩ ?_
    refine pj_J.ite (fun hc51 => ?_) (fun hc51 => ?_)
    · simp only [pj_lc_ge] at hc51
      refine pj_J.go (oX16_does G) 1 rfl trivial ?_
      refine pj_iret dX16_does_70 rfl ?_
      show _ = _ ∧ _ = _
      have e : fa_cap c.1 (sx_R c 1) s t v = ((0 : Int32), (sx_R c 1)) := by unfold fa_cap; rw [if_neg (show ¬ (t = (0 : Int32)) from hc20), if_pos (show (v.toInt64 * (sx_L (sx_R c 1) 1 s.toNatClampNeg)) ≤ (sx_L (sx_R c 1) 0 s.toNatClampNeg) from hc51)]
      rw [e]
      try dsimp only
      exact ⟨rfl, rfl⟩
    · simp only [pj_lc_ge] at hc51
      refine pj_J.go (oX16_does G) 2 rfl trivial ?_
      refine pj_J.go1 (pc := 56) (oX16_does G) rfl (po_getD (lo := 5) (hi := 17) (k := 1) (n := 59) (by exact ha) (by decide) (by rfl)) trivial ?_
      refine pj_J.go (oX16_does G) 1 rfl trivial ?_
      refine pj_J.go1 (pc := 60) (oX16_does G) rfl (po_getD (lo := 5) (hi := 17) (k := 3) (n := 63) (by exact ha) (by decide) (by rfl)) trivial ?_
      refine pj_J.go (oX16_does G) 2 rfl trivial ?_
      refine pj_J.cal0 kX16_does_65 (c_X2_put_1 (c := c) s v.toInt64 (1 : Int64) hs (hO.2.1 hc20 hc51) (by decide)) ⟨_, _, _, rfl, rfl⟩ pj_le0 pj_le0 pj_le0 ?_
      refine pj_iret dX16_does_68 rfl ?_
      show _ = _ ∧ _ = _
      have e : fa_cap c.1 (sx_R c 1) s t v = ((fr_put (sx_R c 1) s v.toInt64 (1 : Int64)).1, ((fr_put (sx_R c 1) s v.toInt64 (1 : Int64)).2)) := by unfold fa_cap; rw [if_neg (show ¬ (t = (0 : Int32)) from hc20), if_neg (show ¬ ((v.toInt64 * (sx_L (sx_R c 1) 1 s.toNatClampNeg)) ≤ (sx_L (sx_R c 1) 0 s.toNatClampNeg)) from hc51)]
      rw [e]
      try dsimp only
      exact ⟨rfl, rfl⟩
theorem c_X16_does_2 {G : pj_G} {d : Nat} {c : sx_C} {m : sx_M} {o : Nat → Int64} {D : pj_H} {i : Nat} {kd s t v : Int32} (ha : D[i]? = some (.inr (14, [.int kd, .int s, .int t, .int v]))) (hs : vp_in s 8) (hO : fa_cap_ok c.1 (sx_R c 2) s t v) : pj_Rt G mX16_does (d + 3) [.ref (i + 98), .ref 32] (sx_mk c m o D) 0 0 (some (.int (fa_cap c.1 (sx_R c 2) s t v).1)) (sx_mk (sx_sR c 2 ((fa_cap c.1 (sx_R c 2) s t v).2)) m o D) := by
  refine pj_Cn.start ?_
  refine pj_J.go (oX16_does G) 1 rfl trivial ?_
  refine pj_J.go1 (pc := 1) (oX16_does G) rfl (po_getD (lo := 5) (hi := 17) (k := 3) (n := 4) (by exact ha) (by decide) (by rfl)) trivial ?_
  refine pj_J.go (oX16_does G) 4 rfl trivial ?_
  refine pj_J.go1 (pc := 10) (oX16_does G) rfl (po_getD (lo := 5) (hi := 17) (k := 1) (n := 13) (by exact ha) (by decide) (by rfl)) trivial ?_
  refine pj_J.go (oX16_does G) 4 rfl ⟨by exact hs, trivial⟩ ?_
  refine pj_J.go1 (pc := 17) (oX16_does G) rfl (po_getD (lo := 5) (hi := 17) (k := 2) (n := 20) (by exact ha) (by decide) (by rfl)) trivial ?_
  refine pj_J.go (oX16_does G) 1 rfl trivial ?_
  refine pj_J.ite (fun hc20 => ?_) (fun hc20 => ?_)
  · skip
    refine pj_J.go (oX16_does G) 3 rfl trivial ?_
    refine pj_J.go1 (pc := 28) (oX16_does G) rfl (po_getD (lo := 5) (hi := 17) (k := 1) (n := 31) (by exact ha) (by decide) (by rfl)) trivial ?_
    refine pj_J.go (oX16_does G) 4 rfl ⟨by exact hs, trivial⟩ ?_
    refine pj_J.ite (fun hc34 => ?_) (fun hc34 => ?_)
    · simp only [pj_lc_le] at hc34
      refine pj_J.go (oX16_does G) 1 rfl trivial ?_
      refine pj_iret dX16_does_70 rfl ?_
      show _ = _ ∧ _ = _
      have e : fa_cap c.1 (sx_R c 2) s t v = ((0 : Int32), (sx_R c 2)) := by unfold fa_cap; rw [if_pos (show t = (0 : Int32) from hc20), if_pos (show (sx_L (sx_R c 2) 0 s.toNatClampNeg) ≤ (v.toInt64 * (sx_L (sx_R c 2) 1 s.toNatClampNeg)) from hc34)]
      rw [e]
      try dsimp only
      exact ⟨rfl, rfl⟩
    · simp only [pj_lc_le] at hc34
      refine pj_J.go (oX16_does G) 3 rfl trivial ?_
      refine pj_J.go1 (pc := 56) (oX16_does G) rfl (po_getD (lo := 5) (hi := 17) (k := 1) (n := 59) (by exact ha) (by decide) (by rfl)) trivial ?_
      refine pj_J.go (oX16_does G) 1 rfl trivial ?_
      refine pj_J.go1 (pc := 60) (oX16_does G) rfl (po_getD (lo := 5) (hi := 17) (k := 3) (n := 63) (by exact ha) (by decide) (by rfl)) trivial ?_
      refine pj_J.go (oX16_does G) 2 rfl trivial ?_
      refine pj_J.cal0 kX16_does_65 (c_X2_put_2 (c := c) s v.toInt64 (1 : Int64) hs (hO.1 hc20 hc34) (by decide)) ⟨_, _, _, rfl, rfl⟩ pj_le0 pj_le0 pj_le0 ?_
      refine pj_iret dX16_does_68 rfl ?_
      show _ = _ ∧ _ = _
      have e : fa_cap c.1 (sx_R c 2) s t v = ((fr_put (sx_R c 2) s v.toInt64 (1 : Int64)).1, ((fr_put (sx_R c 2) s v.toInt64 (1 : Int64)).2)) := by unfold fa_cap; rw [if_pos (show t = (0 : Int32) from hc20), if_neg (show ¬ ((sx_L (sx_R c 2) 0 s.toNatClampNeg) ≤ (v.toInt64 * (sx_L (sx_R c 2) 1 s.toNatClampNeg))) from hc34)]
      rw [e]
      try dsimp only
      exact ⟨rfl, rfl⟩
  · skip
    refine pj_J.go (oX16_does G) 3 rfl trivial ?_
    refine pj_J.go1 (pc := 45) (oX16_does G) rfl (po_getD (lo := 5) (hi := 17) (k := 1) (n := 48) (by exact ha) (by decide) (by rfl)) trivial ?_
    refine pj_J.go (oX16_does G) 4 rfl ⟨by exact hs, trivial⟩ ?_
    refine pj_J.ite (fun hc51 => ?_) (fun hc51 => ?_)
    · simp only [pj_lc_ge] at hc51
      refine pj_J.go (oX16_does G) 1 rfl trivial ?_
      refine pj_iret dX16_does_70 rfl ?_
      show _ = _ ∧ _ = _
      have e : fa_cap c.1 (sx_R c 2) s t v = ((0 : Int32), (sx_R c 2)) := by unfold fa_cap; rw [if_neg (show ¬ (t = (0 : Int32)) from hc20), if_pos (show (v.toInt64 * (sx_L (sx_R c 2) 1 s.toNatClampNeg)) ≤ (sx_L (sx_R c 2) 0 s.toNatClampNeg) from hc51)]
      rw [e]
      try dsimp only
      exact ⟨rfl, rfl⟩
    · simp only [pj_lc_ge] at hc51
      refine pj_J.go (oX16_does G) 2 rfl trivial ?_
      refine pj_J.go1 (pc := 56) (oX16_does G) rfl (po_getD (lo := 5) (hi := 17) (k := 1) (n := 59) (by exact ha) (by decide) (by rfl)) trivial ?_
      refine pj_J.go (oX16_does G) 1 rfl trivial ?_
      refine pj_J.go1 (pc := 60) (oX16_does G) rfl (po_getD (lo := 5) (hi := 17) (k := 3) (n := 63) (by exact ha) (by decide) (by rfl)) trivial ?_
      refine pj_J.go (oX16_does G) 2 rfl trivial ?_
      refine pj_J.cal0 kX16_does_65 (c_X2_put_2 (c := c) s v.toInt64 (1 : Int64) hs (hO.2.1 hc20 hc51) (by decide)) ⟨_, _, _, rfl, rfl⟩ pj_le0 pj_le0 pj_le0 ?_
      refine pj_iret dX16_does_68 rfl ?_
      show _ = _ ∧ _ = _
      have e : fa_cap c.1 (sx_R c 2) s t v = ((fr_put (sx_R c 2) s v.toInt64 (1 : Int64)).1, ((fr_put (sx_R c 2) s v.toInt64 (1 : Int64)).2)) := by unfold fa_cap; rw [if_neg (show ¬ (t = (0 : Int32)) from hc20), if_neg (show ¬ ((v.toInt64 * (sx_L (sx_R c 2) 1 s.toNatClampNeg)) ≤ (sx_L (sx_R c 2) 0 s.toNatClampNeg)) from hc51)]
      rw [e]
      try dsimp only
      exact ⟨rfl, rfl⟩
def fa_book (w u : sx_M) (s t v : Int32) : Int32 × sx_M := if (fr_isWhole u s) = (0 : Int32) then ((-5 : Int32), u) else (if v = (0 : Int32) then (if (sx_I u 2 s.toNatClampNeg) = (0 : Int32) then ((0 : Int32), sx_sL u 12 (vp_updL (sx_L u 12) t.toNatClampNeg ((sx_L u 12 t.toNatClampNeg) + (sx_L u 0 s.toNatClampNeg)))) else ((0 : Int32), sx_si (sx_sL u 12 (vp_updL (sx_L u 12) t.toNatClampNeg ((sx_L u 12 t.toNatClampNeg) + (sx_L u 0 s.toNatClampNeg)))) 13 ((sx_i u 13) + (1 : Int32)))) else (if (sx_I u 2 s.toNatClampNeg) = (0 : Int32) then ((0 : Int32), sx_sL u 12 (vp_updL (sx_L u 12) t.toNatClampNeg ((sx_L u 12 t.toNatClampNeg) + (-(sx_L u 0 s.toNatClampNeg))))) else ((0 : Int32), sx_si (sx_sL u 12 (vp_updL (sx_L u 12) t.toNatClampNeg ((sx_L u 12 t.toNatClampNeg) + (-(sx_L u 0 s.toNatClampNeg))))) 13 ((sx_i u 13) + (1 : Int32)))))
def fa_book_ok (w u : sx_M) (s t v : Int32) : Prop := True
theorem c_X17_does_0 {G : pj_G} {d : Nat} {c : sx_C} {m : sx_M} {o : Nat → Int64} {D : pj_H} {i : Nat} {kd s t v : Int32} (ha : D[i]? = some (.inr (15, [.int kd, .int s, .int t, .int v]))) (hs : vp_in s 8) (ht : vp_in t 8) (hO : fa_book_ok c.1 (sx_R c 0) s t v) : pj_Rt G mX17_does (d + 3) [.ref (i + 98), .ref 10] (sx_mk c m o D) 0 0 (some (.int (fa_book c.1 (sx_R c 0) s t v).1)) (sx_mk (sx_sR c 0 ((fa_book c.1 (sx_R c 0) s t v).2)) m o D) := by
  refine pj_Cn.start ?_
  refine pj_J.go (oX17_does G) 2 rfl trivial ?_
  refine pj_J.go1 (pc := 2) (oX17_does G) rfl (po_getD (lo := 5) (hi := 17) (k := 1) (n := 5) (by exact ha) (by decide) (by rfl)) trivial ?_
  refine pj_J.cal0 kX17_does_5 (c_X2_isWhole_0 (c := c) s hs) ⟨_, _, _, rfl, rfl⟩ pj_le0 pj_le0 pj_le0 ?_
  refine pj_J.go (oX17_does G) 1 rfl trivial ?_
  refine pj_J.ite (fun hc8 => ?_) (fun hc8 => ?_)
  · skip
    refine pj_J.go (oX17_does G) 1 rfl trivial ?_
    refine pj_iret dX17_does_13 rfl ?_
    show _ = _ ∧ _ = _
    have e : fa_book c.1 (sx_R c 0) s t v = ((-5 : Int32), (sx_R c 0)) := by unfold fa_book; rw [if_pos (show (fr_isWhole (sx_R c 0) s) = (0 : Int32) from hc8)]
    rw [e]
    try dsimp only
    exact ⟨rfl, rfl⟩
  · skip
    refine pj_J.go (oX17_does G) 3 rfl trivial ?_
    refine pj_J.go1 (pc := 19) (oX17_does G) rfl (po_getD (lo := 5) (hi := 17) (k := 2) (n := 22) (by exact ha) (by decide) (by rfl)) trivial ?_
    refine pj_J.go (oX17_does G) 3 rfl ⟨by exact ht, trivial⟩ ?_
    refine pj_J.go1 (pc := 25) (oX17_does G) rfl (po_getD (lo := 5) (hi := 17) (k := 3) (n := 28) (by exact ha) (by decide) (by rfl)) trivial ?_
    refine pj_J.go (oX17_does G) 1 rfl trivial ?_
    refine pj_J.ite (fun hc28 => ?_) (fun hc28 => ?_)
    · skip
      refine pj_J.go (oX17_does G) 3 rfl trivial ?_
      refine pj_J.go1 (pc := 36) (oX17_does G) rfl (po_getD (lo := 5) (hi := 17) (k := 1) (n := 39) (by exact ha) (by decide) (by rfl)) trivial ?_
      refine pj_J.go (oX17_does G) 7 rfl ⟨by exact hs, by exact ht, trivial⟩ ?_
      refine pj_J.go1 (pc := 60) (oX17_does G) rfl (po_getD (lo := 5) (hi := 17) (k := 1) (n := 63) (by exact ha) (by decide) (by rfl)) trivial ?_
      refine pj_J.go (oX17_does G) 2 rfl ⟨by exact hs, trivial⟩ ?_
      refine pj_J.ite (fun hc64 => ?_) (fun hc64 => ?_)
      · skip
        refine pj_J.go (oX17_does G) 1 rfl trivial ?_
        refine pj_iret dX17_does_78 rfl ?_
        show _ = _ ∧ _ = _
        have e : fa_book c.1 (sx_R c 0) s t v = ((0 : Int32), sx_sL (sx_R c 0) 12 (vp_updL (sx_L (sx_R c 0) 12) t.toNatClampNeg ((sx_L (sx_R c 0) 12 t.toNatClampNeg) + (sx_L (sx_R c 0) 0 s.toNatClampNeg)))) := by unfold fa_book; rw [if_neg (show ¬ ((fr_isWhole (sx_R c 0) s) = (0 : Int32)) from hc8), if_pos (show v = (0 : Int32) from hc28), if_pos (show (sx_I (sx_R c 0) 2 s.toNatClampNeg) = (0 : Int32) from hc64)]
        rw [e]
        try dsimp only
        exact ⟨rfl, rfl⟩
      · skip
        refine pj_J.go (oX17_does G) 7 rfl trivial ?_
        refine pj_iret dX17_does_78 rfl ?_
        show _ = _ ∧ _ = _
        have e : fa_book c.1 (sx_R c 0) s t v = ((0 : Int32), sx_si (sx_sL (sx_R c 0) 12 (vp_updL (sx_L (sx_R c 0) 12) t.toNatClampNeg ((sx_L (sx_R c 0) 12 t.toNatClampNeg) + (sx_L (sx_R c 0) 0 s.toNatClampNeg)))) 13 ((sx_i (sx_R c 0) 13) + (1 : Int32))) := by unfold fa_book; rw [if_neg (show ¬ ((fr_isWhole (sx_R c 0) s) = (0 : Int32)) from hc8), if_pos (show v = (0 : Int32) from hc28), if_neg (show ¬ ((sx_I (sx_R c 0) 2 s.toNatClampNeg) = (0 : Int32)) from hc64)]
        rw [e]
        try dsimp only
        exact ⟨rfl, rfl⟩
    · skip
      refine pj_J.go (oX17_does G) 3 rfl trivial ?_
      refine pj_J.go1 (pc := 48) (oX17_does G) rfl (po_getD (lo := 5) (hi := 17) (k := 1) (n := 51) (by exact ha) (by decide) (by rfl)) trivial ?_
      refine pj_J.go (oX17_does G) 7 rfl ⟨by exact hs, by exact ht, trivial⟩ ?_
      refine pj_J.go1 (pc := 60) (oX17_does G) rfl (po_getD (lo := 5) (hi := 17) (k := 1) (n := 63) (by exact ha) (by decide) (by rfl)) trivial ?_
      refine pj_J.go (oX17_does G) 2 rfl ⟨by exact hs, trivial⟩ ?_
      refine pj_J.ite (fun hc64 => ?_) (fun hc64 => ?_)
      · skip
        refine pj_J.go (oX17_does G) 1 rfl trivial ?_
        refine pj_iret dX17_does_78 rfl ?_
        show _ = _ ∧ _ = _
        have e : fa_book c.1 (sx_R c 0) s t v = ((0 : Int32), sx_sL (sx_R c 0) 12 (vp_updL (sx_L (sx_R c 0) 12) t.toNatClampNeg ((sx_L (sx_R c 0) 12 t.toNatClampNeg) + (-(sx_L (sx_R c 0) 0 s.toNatClampNeg))))) := by unfold fa_book; rw [if_neg (show ¬ ((fr_isWhole (sx_R c 0) s) = (0 : Int32)) from hc8), if_neg (show ¬ (v = (0 : Int32)) from hc28), if_pos (show (sx_I (sx_R c 0) 2 s.toNatClampNeg) = (0 : Int32) from hc64)]
        rw [e]
        try dsimp only
        exact ⟨rfl, rfl⟩
      · skip
        refine pj_J.go (oX17_does G) 7 rfl trivial ?_
        refine pj_iret dX17_does_78 rfl ?_
        show _ = _ ∧ _ = _
        have e : fa_book c.1 (sx_R c 0) s t v = ((0 : Int32), sx_si (sx_sL (sx_R c 0) 12 (vp_updL (sx_L (sx_R c 0) 12) t.toNatClampNeg ((sx_L (sx_R c 0) 12 t.toNatClampNeg) + (-(sx_L (sx_R c 0) 0 s.toNatClampNeg))))) 13 ((sx_i (sx_R c 0) 13) + (1 : Int32))) := by unfold fa_book; rw [if_neg (show ¬ ((fr_isWhole (sx_R c 0) s) = (0 : Int32)) from hc8), if_neg (show ¬ (v = (0 : Int32)) from hc28), if_neg (show ¬ ((sx_I (sx_R c 0) 2 s.toNatClampNeg) = (0 : Int32)) from hc64)]
        rw [e]
        try dsimp only
        exact ⟨rfl, rfl⟩
theorem c_X17_does_1 {G : pj_G} {d : Nat} {c : sx_C} {m : sx_M} {o : Nat → Int64} {D : pj_H} {i : Nat} {kd s t v : Int32} (ha : D[i]? = some (.inr (15, [.int kd, .int s, .int t, .int v]))) (hs : vp_in s 8) (ht : vp_in t 8) (hO : fa_book_ok c.1 (sx_R c 1) s t v) : pj_Rt G mX17_does (d + 3) [.ref (i + 98), .ref 21] (sx_mk c m o D) 0 0 (some (.int (fa_book c.1 (sx_R c 1) s t v).1)) (sx_mk (sx_sR c 1 ((fa_book c.1 (sx_R c 1) s t v).2)) m o D) := by
  refine pj_Cn.start ?_
  refine pj_J.go (oX17_does G) 2 rfl trivial ?_
  refine pj_J.go1 (pc := 2) (oX17_does G) rfl (po_getD (lo := 5) (hi := 17) (k := 1) (n := 5) (by exact ha) (by decide) (by rfl)) trivial ?_
  refine pj_J.cal0 kX17_does_5 (c_X2_isWhole_1 (c := c) s hs) ⟨_, _, _, rfl, rfl⟩ pj_le0 pj_le0 pj_le0 ?_
  refine pj_J.go (oX17_does G) 1 rfl trivial ?_
  refine pj_J.ite (fun hc8 => ?_) (fun hc8 => ?_)
  · skip
    refine pj_J.go (oX17_does G) 1 rfl trivial ?_
    refine pj_iret dX17_does_13 rfl ?_
    show _ = _ ∧ _ = _
    have e : fa_book c.1 (sx_R c 1) s t v = ((-5 : Int32), (sx_R c 1)) := by unfold fa_book; rw [if_pos (show (fr_isWhole (sx_R c 1) s) = (0 : Int32) from hc8)]
    rw [e]
    try dsimp only
    exact ⟨rfl, rfl⟩
  · skip
    refine pj_J.go (oX17_does G) 3 rfl trivial ?_
    refine pj_J.go1 (pc := 19) (oX17_does G) rfl (po_getD (lo := 5) (hi := 17) (k := 2) (n := 22) (by exact ha) (by decide) (by rfl)) trivial ?_
    refine pj_J.go (oX17_does G) 3 rfl ⟨by exact ht, trivial⟩ ?_
    refine pj_J.go1 (pc := 25) (oX17_does G) rfl (po_getD (lo := 5) (hi := 17) (k := 3) (n := 28) (by exact ha) (by decide) (by rfl)) trivial ?_
    refine pj_J.go (oX17_does G) 1 rfl trivial ?_
    refine pj_J.ite (fun hc28 => ?_) (fun hc28 => ?_)
    · skip
      refine pj_J.go (oX17_does G) 3 rfl trivial ?_
      refine pj_J.go1 (pc := 36) (oX17_does G) rfl (po_getD (lo := 5) (hi := 17) (k := 1) (n := 39) (by exact ha) (by decide) (by rfl)) trivial ?_
      refine pj_J.go (oX17_does G) 7 rfl ⟨by exact hs, by exact ht, trivial⟩ ?_
      refine pj_J.go1 (pc := 60) (oX17_does G) rfl (po_getD (lo := 5) (hi := 17) (k := 1) (n := 63) (by exact ha) (by decide) (by rfl)) trivial ?_
      refine pj_J.go (oX17_does G) 2 rfl ⟨by exact hs, trivial⟩ ?_
      refine pj_J.ite (fun hc64 => ?_) (fun hc64 => ?_)
      · skip
        refine pj_J.go (oX17_does G) 1 rfl trivial ?_
        refine pj_iret dX17_does_78 rfl ?_
        show _ = _ ∧ _ = _
        have e : fa_book c.1 (sx_R c 1) s t v = ((0 : Int32), sx_sL (sx_R c 1) 12 (vp_updL (sx_L (sx_R c 1) 12) t.toNatClampNeg ((sx_L (sx_R c 1) 12 t.toNatClampNeg) + (sx_L (sx_R c 1) 0 s.toNatClampNeg)))) := by unfold fa_book; rw [if_neg (show ¬ ((fr_isWhole (sx_R c 1) s) = (0 : Int32)) from hc8), if_pos (show v = (0 : Int32) from hc28), if_pos (show (sx_I (sx_R c 1) 2 s.toNatClampNeg) = (0 : Int32) from hc64)]
        rw [e]
        try dsimp only
        exact ⟨rfl, rfl⟩
      · skip
        refine pj_J.go (oX17_does G) 7 rfl trivial ?_
        refine pj_iret dX17_does_78 rfl ?_
        show _ = _ ∧ _ = _
        have e : fa_book c.1 (sx_R c 1) s t v = ((0 : Int32), sx_si (sx_sL (sx_R c 1) 12 (vp_updL (sx_L (sx_R c 1) 12) t.toNatClampNeg ((sx_L (sx_R c 1) 12 t.toNatClampNeg) + (sx_L (sx_R c 1) 0 s.toNatClampNeg)))) 13 ((sx_i (sx_R c 1) 13) + (1 : Int32))) := by unfold fa_book; rw [if_neg (show ¬ ((fr_isWhole (sx_R c 1) s) = (0 : Int32)) from hc8), if_pos (show v = (0 : Int32) from hc28), if_neg (show ¬ ((sx_I (sx_R c 1) 2 s.toNatClampNeg) = (0 : Int32)) from hc64)]
        rw [e]
        try dsimp only
        exact ⟨rfl, rfl⟩
    · skip
      refine pj_J.go (oX17_does G) 3 rfl trivial ?_
      refine pj_J.go1 (pc := 48) (oX17_does G) rfl (po_getD (lo := 5) (hi := 17) (k := 1) (n := 51) (by exact ha) (by decide) (by rfl)) trivial ?_
      refine pj_J.go (oX17_does G) 7 rfl ⟨by exact hs, by exact ht, trivial⟩ ?_
      refine pj_J.go1 (pc := 60) (oX17_does G) rfl (po_getD (lo := 5) (hi := 17) (k := 1) (n := 63) (by exact ha) (by decide) (by rfl)) trivial ?_
      refine pj_J.go (oX17_does G) 2 rfl ⟨by exact hs, trivial⟩ ?_
      refine pj_J.ite (fun hc64 => ?_) (fun hc64 => ?_)
      · skip
        refine pj_J.go (oX17_does G) 1 rfl trivial ?_
        refine pj_iret dX17_does_78 rfl ?_
        show _ = _ ∧ _ = _
        have e : fa_book c.1 (sx_R c 1) s t v = ((0 : Int32), sx_sL (sx_R c 1) 12 (vp_updL (sx_L (sx_R c 1) 12) t.toNatClampNeg ((sx_L (sx_R c 1) 12 t.toNatClampNeg) + (-(sx_L (sx_R c 1) 0 s.toNatClampNeg))))) := by unfold fa_book; rw [if_neg (show ¬ ((fr_isWhole (sx_R c 1) s) = (0 : Int32)) from hc8), if_neg (show ¬ (v = (0 : Int32)) from hc28), if_pos (show (sx_I (sx_R c 1) 2 s.toNatClampNeg) = (0 : Int32) from hc64)]
        rw [e]
        try dsimp only
        exact ⟨rfl, rfl⟩
      · skip
        refine pj_J.go (oX17_does G) 7 rfl trivial ?_
        refine pj_iret dX17_does_78 rfl ?_
        show _ = _ ∧ _ = _
        have e : fa_book c.1 (sx_R c 1) s t v = ((0 : Int32), sx_si (sx_sL (sx_R c 1) 12 (vp_updL (sx_L (sx_R c 1) 12) t.toNatClampNeg ((sx_L (sx_R c 1) 12 t.toNatClampNeg) + (-(sx_L (sx_R c 1) 0 s.toNatClampNeg))))) 13 ((sx_i (sx_R c 1) 13) + (1 : Int32))) := by unfold fa_book; rw [if_neg (show ¬ ((fr_isWhole (sx_R c 1) s) = (0 : Int32)) from hc8), if_neg (show ¬ (v = (0 : Int32)) from hc28), if_neg (show ¬ ((sx_I (sx_R c 1) 2 s.toNatClampNeg) = (0 : Int32)) from hc64)]
        rw [e]
        try dsimp only
        exact ⟨rfl, rfl⟩
theorem c_X17_does_2 {G : pj_G} {d : Nat} {c : sx_C} {m : sx_M} {o : Nat → Int64} {D : pj_H} {i : Nat} {kd s t v : Int32} (ha : D[i]? = some (.inr (15, [.int kd, .int s, .int t, .int v]))) (hs : vp_in s 8) (ht : vp_in t 8) (hO : fa_book_ok c.1 (sx_R c 2) s t v) : pj_Rt G mX17_does (d + 3) [.ref (i + 98), .ref 32] (sx_mk c m o D) 0 0 (some (.int (fa_book c.1 (sx_R c 2) s t v).1)) (sx_mk (sx_sR c 2 ((fa_book c.1 (sx_R c 2) s t v).2)) m o D) := by
  refine pj_Cn.start ?_
  refine pj_J.go (oX17_does G) 2 rfl trivial ?_
  refine pj_J.go1 (pc := 2) (oX17_does G) rfl (po_getD (lo := 5) (hi := 17) (k := 1) (n := 5) (by exact ha) (by decide) (by rfl)) trivial ?_
  refine pj_J.cal0 kX17_does_5 (c_X2_isWhole_2 (c := c) s hs) ⟨_, _, _, rfl, rfl⟩ pj_le0 pj_le0 pj_le0 ?_
  refine pj_J.go (oX17_does G) 1 rfl trivial ?_
  refine pj_J.ite (fun hc8 => ?_) (fun hc8 => ?_)
  · skip
    refine pj_J.go (oX17_does G) 1 rfl trivial ?_
    refine pj_iret dX17_does_13 rfl ?_
    show _ = _ ∧ _ = _
    have e : fa_book c.1 (sx_R c 2) s t v = ((-5 : Int32), (sx_R c 2)) := by unfold fa_book; rw [if_pos (show (fr_isWhole (sx_R c 2) s) = (0 : Int32) from hc8)]
    rw [e]
    try dsimp only
    exact ⟨rfl, rfl⟩
  · skip
    refine pj_J.go (oX17_does G) 3 rfl trivial ?_
    refine pj_J.go1 (pc := 19) (oX17_does G) rfl (po_getD (lo := 5) (hi := 17) (k := 2) (n := 22) (by exact ha) (by decide) (by rfl)) trivial ?_
    refine pj_J.go (oX17_does G) 3 rfl ⟨by exact ht, trivial⟩ ?_
    refine pj_J.go1 (pc := 25) (oX17_does G) rfl (po_getD (lo := 5) (hi := 17) (k := 3) (n := 28) (by exact ha) (by decide) (by rfl)) trivial ?_
    refine pj_J.go (oX17_does G) 1 rfl trivial ?_
    refine pj_J.ite (fun hc28 => ?_) (fun hc28 => ?_)
    · skip
      refine pj_J.go (oX17_does G) 3 rfl trivial ?_
      refine pj_J.go1 (pc := 36) (oX17_does G) rfl (po_getD (lo := 5) (hi := 17) (k := 1) (n := 39) (by exact ha) (by decide) (by rfl)) trivial ?_
      refine pj_J.go (oX17_does G) 7 rfl ⟨by exact hs, by exact ht, trivial⟩ ?_
      refine pj_J.go1 (pc := 60) (oX17_does G) rfl (po_getD (lo := 5) (hi := 17) (k := 1) (n := 63) (by exact ha) (by decide) (by rfl)) trivial ?_
      refine pj_J.go (oX17_does G) 2 rfl ⟨by exact hs, trivial⟩ ?_
      refine pj_J.ite (fun hc64 => ?_) (fun hc64 => ?_)
      · skip
        refine pj_J.go (oX17_does G) 1 rfl trivial ?_
        refine pj_iret dX17_does_78 rfl ?_
        show _ = _ ∧ _ = _
        have e : fa_book c.1 (sx_R c 2) s t v = ((0 : Int32), sx_sL (sx_R c 2) 12 (vp_updL (sx_L (sx_R c 2) 12) t.toNatClampNeg ((sx_L (sx_R c 2) 12 t.toNatClampNeg) + (sx_L (sx_R c 2) 0 s.toNatClampNeg)))) := by unfold fa_book; rw [if_neg (show ¬ ((fr_isWhole (sx_R c 2) s) = (0 : Int32)) from hc8), if_pos (show v = (0 : Int32) from hc28), if_pos (show (sx_I (sx_R c 2) 2 s.toNatClampNeg) = (0 : Int32) from hc64)]
        rw [e]
        try dsimp only
        exact ⟨rfl, rfl⟩
      · skip
        refine pj_J.go (oX17_does G) 7 rfl trivial ?_
        refine pj_iret dX17_does_78 rfl ?_
        show _ = _ ∧ _ = _
        have e : fa_book c.1 (sx_R c 2) s t v = ((0 : Int32), sx_si (sx_sL (sx_R c 2) 12 (vp_updL (sx_L (sx_R c 2) 12) t.toNatClampNeg ((sx_L (sx_R c 2) 12 t.toNatClampNeg) + (sx_L (sx_R c 2) 0 s.toNatClampNeg)))) 13 ((sx_i (sx_R c 2) 13) + (1 : Int32))) := by unfold fa_book; rw [if_neg (show ¬ ((fr_isWhole (sx_R c 2) s) = (0 : Int32)) from hc8), if_pos (show v = (0 : Int32) from hc28), if_neg (show ¬ ((sx_I (sx_R c 2) 2 s.toNatClampNeg) = (0 : Int32)) from hc64)]
        rw [e]
        try dsimp only
        exact ⟨rfl, rfl⟩
    · skip
      refine pj_J.go (oX17_does G) 3 rfl trivial ?_
      refine pj_J.go1 (pc := 48) (oX17_does G) rfl (po_getD (lo := 5) (hi := 17) (k := 1) (n := 51) (by exact ha) (by decide) (by rfl)) trivial ?_
      refine pj_J.go (oX17_does G) 7 rfl ⟨by exact hs, by exact ht, trivial⟩ ?_
      refine pj_J.go1 (pc := 60) (oX17_does G) rfl (po_getD (lo := 5) (hi := 17) (k := 1) (n := 63) (by exact ha) (by decide) (by rfl)) trivial ?_
      refine pj_J.go (oX17_does G) 2 rfl ⟨by exact hs, trivial⟩ ?_
      refine pj_J.ite (fun hc64 => ?_) (fun hc64 => ?_)
      · skip
        refine pj_J.go (oX17_does G) 1 rfl trivial ?_
        refine pj_iret dX17_does_78 rfl ?_
        show _ = _ ∧ _ = _
        have e : fa_book c.1 (sx_R c 2) s t v = ((0 : Int32), sx_sL (sx_R c 2) 12 (vp_updL (sx_L (sx_R c 2) 12) t.toNatClampNeg ((sx_L (sx_R c 2) 12 t.toNatClampNeg) + (-(sx_L (sx_R c 2) 0 s.toNatClampNeg))))) := by unfold fa_book; rw [if_neg (show ¬ ((fr_isWhole (sx_R c 2) s) = (0 : Int32)) from hc8), if_neg (show ¬ (v = (0 : Int32)) from hc28), if_pos (show (sx_I (sx_R c 2) 2 s.toNatClampNeg) = (0 : Int32) from hc64)]
        rw [e]
        try dsimp only
        exact ⟨rfl, rfl⟩
      · skip
        refine pj_J.go (oX17_does G) 7 rfl trivial ?_
        refine pj_iret dX17_does_78 rfl ?_
        show _ = _ ∧ _ = _
        have e : fa_book c.1 (sx_R c 2) s t v = ((0 : Int32), sx_si (sx_sL (sx_R c 2) 12 (vp_updL (sx_L (sx_R c 2) 12) t.toNatClampNeg ((sx_L (sx_R c 2) 12 t.toNatClampNeg) + (-(sx_L (sx_R c 2) 0 s.toNatClampNeg))))) 13 ((sx_i (sx_R c 2) 13) + (1 : Int32))) := by unfold fa_book; rw [if_neg (show ¬ ((fr_isWhole (sx_R c 2) s) = (0 : Int32)) from hc8), if_neg (show ¬ (v = (0 : Int32)) from hc28), if_neg (show ¬ ((sx_I (sx_R c 2) 2 s.toNatClampNeg) = (0 : Int32)) from hc64)]
        rw [e]
        try dsimp only
        exact ⟨rfl, rfl⟩
def fa_show (w u : sx_M) (s t v : Int32) : Int32 × sx_M := if (fr_put u s (fc_whole (sx_L u 0 t.toNatClampNeg) (sx_L u 1 t.toNatClampNeg) v) (1 : Int64)).1 = (0 : Int32) then ((fr_put u s (fc_whole (sx_L u 0 t.toNatClampNeg) (sx_L u 1 t.toNatClampNeg) v) (1 : Int64)).1, (fr_show ((fr_put u s (fc_whole (sx_L u 0 t.toNatClampNeg) (sx_L u 1 t.toNatClampNeg) v) (1 : Int64)).2) s (1 : Int32))) else ((fr_put u s (fc_whole (sx_L u 0 t.toNatClampNeg) (sx_L u 1 t.toNatClampNeg) v) (1 : Int64)).1, ((fr_put u s (fc_whole (sx_L u 0 t.toNatClampNeg) (sx_L u 1 t.toNatClampNeg) v) (1 : Int64)).2))
def fa_show_ok (w u : sx_M) (s t v : Int32) : Prop := (¬ (sx_L u 1 t.toNatClampNeg) = 0) ∧ (-9223372036854775807 ≤ (fc_whole (sx_L u 0 t.toNatClampNeg) (sx_L u 1 t.toNatClampNeg) v)) ∧ True
theorem c_X18_does_0 {G : pj_G} {d : Nat} {c : sx_C} {m : sx_M} {o : Nat → Int64} {D : pj_H} {i : Nat} {kd s t v : Int32} (ha : D[i]? = some (.inr (16, [.int kd, .int s, .int t, .int v]))) (hs : vp_in s 8) (ht : vp_in t 8) (hO : fa_show_ok c.1 (sx_R c 0) s t v) : pj_Rt G mX18_does (d + 3) [.ref (i + 98), .ref 10] (sx_mk c m o D) 0 0 (some (.int (fa_show c.1 (sx_R c 0) s t v).1)) (sx_mk (sx_sR c 0 ((fa_show c.1 (sx_R c 0) s t v).2)) m o D) := by
  refine pj_Cn.start ?_
  refine pj_J.go (oX18_does G) 2 rfl trivial ?_
  refine pj_J.go1 (pc := 2) (oX18_does G) rfl (po_getD (lo := 5) (hi := 17) (k := 1) (n := 5) (by exact ha) (by decide) (by rfl)) trivial ?_
  refine pj_J.go (oX18_does G) 3 rfl trivial ?_
  refine pj_J.go1 (pc := 10) (oX18_does G) rfl (po_getD (lo := 5) (hi := 17) (k := 2) (n := 13) (by exact ha) (by decide) (by rfl)) trivial ?_
  refine pj_J.go (oX18_does G) 4 rfl ⟨by exact ht, trivial⟩ ?_
  refine pj_J.go1 (pc := 19) (oX18_does G) rfl (po_getD (lo := 5) (hi := 17) (k := 2) (n := 22) (by exact ha) (by decide) (by rfl)) trivial ?_
  refine pj_J.go (oX18_does G) 2 rfl ⟨by exact ht, trivial⟩ ?_
  refine pj_J.go1 (pc := 24) (oX18_does G) rfl (po_getD (lo := 5) (hi := 17) (k := 3) (n := 27) (by exact ha) (by decide) (by rfl)) trivial ?_
  refine pj_J.cal0 kX18_does_27 (c_X1_whole (sx_L (sx_R c 0) 0 t.toNatClampNeg) (sx_L (sx_R c 0) 1 t.toNatClampNeg) v (hO.1)) trivial pj_le0 pj_le0 pj_le0 ?_
  refine pj_J.go (oX18_does G) 1 rfl trivial ?_
  refine pj_J.cal0 kX18_does_31 (c_X2_put_0 (c := c) s (fc_whole (sx_L (sx_R c 0) 0 t.toNatClampNeg) (sx_L (sx_R c 0) 1 t.toNatClampNeg) v) (1 : Int64) hs (hO.2.1) (by decide)) ⟨_, _, _, rfl, rfl⟩ pj_le0 pj_le0 pj_le0 ?_
  refine pj_J.go (oX18_does G) 3 rfl trivial ?_
  refine pj_J.ite (fun hc36 => ?_) (fun hc36 => ?_)
  · skip
    refine pj_J.go (oX18_does G) 3 rfl trivial ?_
    refine pj_J.cal0 kX18_does_42 (c_X6_show_0 (c := (sx_sR c 0 ((fr_put (sx_R c 0) s (fc_whole (sx_L (sx_R c 0) 0 t.toNatClampNeg) (sx_L (sx_R c 0) 1 t.toNatClampNeg) v) (1 : Int64)).2))) ha (by decide) hs (1 : Int32)) ⟨_, _, _, rfl, ha⟩ pj_le0 pj_le0 pj_le0 ?_
    refine pj_J.go (oX18_does G) 1 rfl trivial ?_
    refine pj_iret dX18_does_46 rfl ?_
    show _ = _ ∧ _ = _
    have e : fa_show c.1 (sx_R c 0) s t v = ((fr_put (sx_R c 0) s (fc_whole (sx_L (sx_R c 0) 0 t.toNatClampNeg) (sx_L (sx_R c 0) 1 t.toNatClampNeg) v) (1 : Int64)).1, (fr_show ((fr_put (sx_R c 0) s (fc_whole (sx_L (sx_R c 0) 0 t.toNatClampNeg) (sx_L (sx_R c 0) 1 t.toNatClampNeg) v) (1 : Int64)).2) s (1 : Int32))) := by unfold fa_show; rw [if_pos (show (fr_put (sx_R c 0) s (fc_whole (sx_L (sx_R c 0) 0 t.toNatClampNeg) (sx_L (sx_R c 0) 1 t.toNatClampNeg) v) (1 : Int64)).1 = (0 : Int32) from hc36)]
    rw [e]
    try dsimp only
    exact ⟨rfl, rfl⟩
  · skip
    refine pj_J.go (oX18_does G) 1 rfl trivial ?_
    refine pj_iret dX18_does_46 rfl ?_
    show _ = _ ∧ _ = _
    have e : fa_show c.1 (sx_R c 0) s t v = ((fr_put (sx_R c 0) s (fc_whole (sx_L (sx_R c 0) 0 t.toNatClampNeg) (sx_L (sx_R c 0) 1 t.toNatClampNeg) v) (1 : Int64)).1, ((fr_put (sx_R c 0) s (fc_whole (sx_L (sx_R c 0) 0 t.toNatClampNeg) (sx_L (sx_R c 0) 1 t.toNatClampNeg) v) (1 : Int64)).2)) := by unfold fa_show; rw [if_neg (show ¬ ((fr_put (sx_R c 0) s (fc_whole (sx_L (sx_R c 0) 0 t.toNatClampNeg) (sx_L (sx_R c 0) 1 t.toNatClampNeg) v) (1 : Int64)).1 = (0 : Int32)) from hc36)]
    rw [e]
    try dsimp only
    exact ⟨rfl, rfl⟩
theorem c_X18_does_1 {G : pj_G} {d : Nat} {c : sx_C} {m : sx_M} {o : Nat → Int64} {D : pj_H} {i : Nat} {kd s t v : Int32} (ha : D[i]? = some (.inr (16, [.int kd, .int s, .int t, .int v]))) (hs : vp_in s 8) (ht : vp_in t 8) (hO : fa_show_ok c.1 (sx_R c 1) s t v) : pj_Rt G mX18_does (d + 3) [.ref (i + 98), .ref 21] (sx_mk c m o D) 0 0 (some (.int (fa_show c.1 (sx_R c 1) s t v).1)) (sx_mk (sx_sR c 1 ((fa_show c.1 (sx_R c 1) s t v).2)) m o D) := by
  refine pj_Cn.start ?_
  refine pj_J.go (oX18_does G) 2 rfl trivial ?_
  refine pj_J.go1 (pc := 2) (oX18_does G) rfl (po_getD (lo := 5) (hi := 17) (k := 1) (n := 5) (by exact ha) (by decide) (by rfl)) trivial ?_
  refine pj_J.go (oX18_does G) 3 rfl trivial ?_
  refine pj_J.go1 (pc := 10) (oX18_does G) rfl (po_getD (lo := 5) (hi := 17) (k := 2) (n := 13) (by exact ha) (by decide) (by rfl)) trivial ?_
  refine pj_J.go (oX18_does G) 4 rfl ⟨by exact ht, trivial⟩ ?_
  refine pj_J.go1 (pc := 19) (oX18_does G) rfl (po_getD (lo := 5) (hi := 17) (k := 2) (n := 22) (by exact ha) (by decide) (by rfl)) trivial ?_
  refine pj_J.go (oX18_does G) 2 rfl ⟨by exact ht, trivial⟩ ?_
  refine pj_J.go1 (pc := 24) (oX18_does G) rfl (po_getD (lo := 5) (hi := 17) (k := 3) (n := 27) (by exact ha) (by decide) (by rfl)) trivial ?_
  refine pj_J.cal0 kX18_does_27 (c_X1_whole (sx_L (sx_R c 1) 0 t.toNatClampNeg) (sx_L (sx_R c 1) 1 t.toNatClampNeg) v (hO.1)) trivial pj_le0 pj_le0 pj_le0 ?_
  refine pj_J.go (oX18_does G) 1 rfl trivial ?_
  refine pj_J.cal0 kX18_does_31 (c_X2_put_1 (c := c) s (fc_whole (sx_L (sx_R c 1) 0 t.toNatClampNeg) (sx_L (sx_R c 1) 1 t.toNatClampNeg) v) (1 : Int64) hs (hO.2.1) (by decide)) ⟨_, _, _, rfl, rfl⟩ pj_le0 pj_le0 pj_le0 ?_
  refine pj_J.go (oX18_does G) 3 rfl trivial ?_
  refine pj_J.ite (fun hc36 => ?_) (fun hc36 => ?_)
  · skip
    refine pj_J.go (oX18_does G) 3 rfl trivial ?_
    refine pj_J.cal0 kX18_does_42 (c_X6_show_1 (c := (sx_sR c 1 ((fr_put (sx_R c 1) s (fc_whole (sx_L (sx_R c 1) 0 t.toNatClampNeg) (sx_L (sx_R c 1) 1 t.toNatClampNeg) v) (1 : Int64)).2))) ha (by decide) hs (1 : Int32)) ⟨_, _, _, rfl, ha⟩ pj_le0 pj_le0 pj_le0 ?_
    refine pj_J.go (oX18_does G) 1 rfl trivial ?_
    refine pj_iret dX18_does_46 rfl ?_
    show _ = _ ∧ _ = _
    have e : fa_show c.1 (sx_R c 1) s t v = ((fr_put (sx_R c 1) s (fc_whole (sx_L (sx_R c 1) 0 t.toNatClampNeg) (sx_L (sx_R c 1) 1 t.toNatClampNeg) v) (1 : Int64)).1, (fr_show ((fr_put (sx_R c 1) s (fc_whole (sx_L (sx_R c 1) 0 t.toNatClampNeg) (sx_L (sx_R c 1) 1 t.toNatClampNeg) v) (1 : Int64)).2) s (1 : Int32))) := by unfold fa_show; rw [if_pos (show (fr_put (sx_R c 1) s (fc_whole (sx_L (sx_R c 1) 0 t.toNatClampNeg) (sx_L (sx_R c 1) 1 t.toNatClampNeg) v) (1 : Int64)).1 = (0 : Int32) from hc36)]
    rw [e]
    try dsimp only
    exact ⟨rfl, rfl⟩
  · skip
    refine pj_J.go (oX18_does G) 1 rfl trivial ?_
    refine pj_iret dX18_does_46 rfl ?_
    show _ = _ ∧ _ = _
    have e : fa_show c.1 (sx_R c 1) s t v = ((fr_put (sx_R c 1) s (fc_whole (sx_L (sx_R c 1) 0 t.toNatClampNeg) (sx_L (sx_R c 1) 1 t.toNatClampNeg) v) (1 : Int64)).1, ((fr_put (sx_R c 1) s (fc_whole (sx_L (sx_R c 1) 0 t.toNatClampNeg) (sx_L (sx_R c 1) 1 t.toNatClampNeg) v) (1 : Int64)).2)) := by unfold fa_show; rw [if_neg (show ¬ ((fr_put (sx_R c 1) s (fc_whole (sx_L (sx_R c 1) 0 t.toNatClampNeg) (sx_L (sx_R c 1) 1 t.toNatClampNeg) v) (1 : Int64)).1 = (0 : Int32)) from hc36)]
    rw [e]
    try dsimp only
    exact ⟨rfl, rfl⟩
theorem c_X18_does_2 {G : pj_G} {d : Nat} {c : sx_C} {m : sx_M} {o : Nat → Int64} {D : pj_H} {i : Nat} {kd s t v : Int32} (ha : D[i]? = some (.inr (16, [.int kd, .int s, .int t, .int v]))) (hs : vp_in s 8) (ht : vp_in t 8) (hO : fa_show_ok c.1 (sx_R c 2) s t v) : pj_Rt G mX18_does (d + 3) [.ref (i + 98), .ref 32] (sx_mk c m o D) 0 0 (some (.int (fa_show c.1 (sx_R c 2) s t v).1)) (sx_mk (sx_sR c 2 ((fa_show c.1 (sx_R c 2) s t v).2)) m o D) := by
  refine pj_Cn.start ?_
  refine pj_J.go (oX18_does G) 2 rfl trivial ?_
  refine pj_J.go1 (pc := 2) (oX18_does G) rfl (po_getD (lo := 5) (hi := 17) (k := 1) (n := 5) (by exact ha) (by decide) (by rfl)) trivial ?_
  refine pj_J.go (oX18_does G) 3 rfl trivial ?_
  refine pj_J.go1 (pc := 10) (oX18_does G) rfl (po_getD (lo := 5) (hi := 17) (k := 2) (n := 13) (by exact ha) (by decide) (by rfl)) trivial ?_
  refine pj_J.go (oX18_does G) 4 rfl ⟨by exact ht, trivial⟩ ?_
  refine pj_J.go1 (pc := 19) (oX18_does G) rfl (po_getD (lo := 5) (hi := 17) (k := 2) (n := 22) (by exact ha) (by decide) (by rfl)) trivial ?_
  refine pj_J.go (oX18_does G) 2 rfl ⟨by exact ht, trivial⟩ ?_
  refine pj_J.go1 (pc := 24) (oX18_does G) rfl (po_getD (lo := 5) (hi := 17) (k := 3) (n := 27) (by exact ha) (by decide) (by rfl)) trivial ?_
  refine pj_J.cal0 kX18_does_27 (c_X1_whole (sx_L (sx_R c 2) 0 t.toNatClampNeg) (sx_L (sx_R c 2) 1 t.toNatClampNeg) v (hO.1)) trivial pj_le0 pj_le0 pj_le0 ?_
  refine pj_J.go (oX18_does G) 1 rfl trivial ?_
  refine pj_J.cal0 kX18_does_31 (c_X2_put_2 (c := c) s (fc_whole (sx_L (sx_R c 2) 0 t.toNatClampNeg) (sx_L (sx_R c 2) 1 t.toNatClampNeg) v) (1 : Int64) hs (hO.2.1) (by decide)) ⟨_, _, _, rfl, rfl⟩ pj_le0 pj_le0 pj_le0 ?_
  refine pj_J.go (oX18_does G) 3 rfl trivial ?_
  refine pj_J.ite (fun hc36 => ?_) (fun hc36 => ?_)
  · skip
    refine pj_J.go (oX18_does G) 3 rfl trivial ?_
    refine pj_J.cal0 kX18_does_42 (c_X6_show_2 (c := (sx_sR c 2 ((fr_put (sx_R c 2) s (fc_whole (sx_L (sx_R c 2) 0 t.toNatClampNeg) (sx_L (sx_R c 2) 1 t.toNatClampNeg) v) (1 : Int64)).2))) ha (by decide) hs (1 : Int32)) ⟨_, _, _, rfl, ha⟩ pj_le0 pj_le0 pj_le0 ?_
    refine pj_J.go (oX18_does G) 1 rfl trivial ?_
    refine pj_iret dX18_does_46 rfl ?_
    show _ = _ ∧ _ = _
    have e : fa_show c.1 (sx_R c 2) s t v = ((fr_put (sx_R c 2) s (fc_whole (sx_L (sx_R c 2) 0 t.toNatClampNeg) (sx_L (sx_R c 2) 1 t.toNatClampNeg) v) (1 : Int64)).1, (fr_show ((fr_put (sx_R c 2) s (fc_whole (sx_L (sx_R c 2) 0 t.toNatClampNeg) (sx_L (sx_R c 2) 1 t.toNatClampNeg) v) (1 : Int64)).2) s (1 : Int32))) := by unfold fa_show; rw [if_pos (show (fr_put (sx_R c 2) s (fc_whole (sx_L (sx_R c 2) 0 t.toNatClampNeg) (sx_L (sx_R c 2) 1 t.toNatClampNeg) v) (1 : Int64)).1 = (0 : Int32) from hc36)]
    rw [e]
    try dsimp only
    exact ⟨rfl, rfl⟩
  · skip
    refine pj_J.go (oX18_does G) 1 rfl trivial ?_
    refine pj_iret dX18_does_46 rfl ?_
    show _ = _ ∧ _ = _
    have e : fa_show c.1 (sx_R c 2) s t v = ((fr_put (sx_R c 2) s (fc_whole (sx_L (sx_R c 2) 0 t.toNatClampNeg) (sx_L (sx_R c 2) 1 t.toNatClampNeg) v) (1 : Int64)).1, ((fr_put (sx_R c 2) s (fc_whole (sx_L (sx_R c 2) 0 t.toNatClampNeg) (sx_L (sx_R c 2) 1 t.toNatClampNeg) v) (1 : Int64)).2)) := by unfold fa_show; rw [if_neg (show ¬ ((fr_put (sx_R c 2) s (fc_whole (sx_L (sx_R c 2) 0 t.toNatClampNeg) (sx_L (sx_R c 2) 1 t.toNatClampNeg) v) (1 : Int64)).1 = (0 : Int32)) from hc36)]
    rw [e]
    try dsimp only
    exact ⟨rfl, rfl⟩
def fa_split (w u : sx_M) (s t v : Int32) : Int32 × sx_M × sx_M := if (fr_isWhole u s) = (0 : Int32) then ((-5 : Int32), u, w) else ((0 : Int32), sx_sl (sx_si (sx_si (sx_sL u 3 (fc_share w (sx_L u 0 s.toNatClampNeg) v t (sx_L u 3)).1) 4 (sx_I (sx_sL u 3 (fc_share w (sx_L u 0 s.toNatClampNeg) v t (sx_L u 3)).1) 2 s.toNatClampNeg)) 5 v) 6 (sx_L (sx_sL u 3 (fc_share w (sx_L u 0 s.toNatClampNeg) v t (sx_L u 3)).1) 0 s.toNatClampNeg), (sx_sL w 14 (fc_share w (sx_L u 0 s.toNatClampNeg) v t (sx_L u 3)).2))
def fa_split_ok (w u : sx_M) (s t v : Int32) : Prop := (¬ ((fr_isWhole u s) = (0 : Int32)) → fc_shOk w (sx_L u 0 s.toNatClampNeg) v t (sx_L u 3)) ∧ (¬ ((fr_isWhole u s) = (0 : Int32)) → (sx_I (sx_sL u 3 (fc_share w (sx_L u 0 s.toNatClampNeg) v t (sx_L u 3)).1) 2 s.toNatClampNeg) = 0 ∨ (sx_I (sx_sL u 3 (fc_share w (sx_L u 0 s.toNatClampNeg) v t (sx_L u 3)).1) 2 s.toNatClampNeg) = 1) ∧ True
theorem c_X13_does_0 {G : pj_G} {d : Nat} {c : sx_C} {m : sx_M} {o : Nat → Int64} {D : pj_H} {i : Nat} {kd s t v : Int32} (ha : D[i]? = some (.inr (11, [.int kd, .int s, .int t, .int v]))) (hs : vp_in s 8) (hO : fa_split_ok c.1 (sx_R c 0) s t v) : pj_Rt G mX13_does (d + 3) [.ref (i + 98), .ref 10] (sx_mk c m o D) 0 0 (some (.int (fa_split c.1 (sx_R c 0) s t v).1)) (sx_mk (sx_sR (sx_sM c (fa_split c.1 (sx_R c 0) s t v).2.2) 0 (fa_split c.1 (sx_R c 0) s t v).2.1) m o D) := by
  refine pj_Cn.start ?_
  refine pj_J.go (oX13_does G) 2 rfl trivial ?_
  refine pj_J.go1 (pc := 2) (oX13_does G) rfl (po_getD (lo := 5) (hi := 17) (k := 1) (n := 5) (by exact ha) (by decide) (by rfl)) trivial ?_
  refine pj_J.cal0 kX13_does_5 (c_X2_isWhole_0 (c := c) s hs) ⟨_, _, _, rfl, rfl⟩ pj_le0 pj_le0 pj_le0 ?_
  refine pj_J.go (oX13_does G) 1 rfl trivial ?_
  refine pj_J.ite (fun hc8 => ?_) (fun hc8 => ?_)
  · skip
    refine pj_J.go (oX13_does G) 1 rfl trivial ?_
    refine pj_iret dX13_does_13 rfl ?_
    show _ = _ ∧ _ = _
    have e : fa_split c.1 (sx_R c 0) s t v = ((-5 : Int32), (sx_R c 0), c.1) := by unfold fa_split; rw [if_pos (show (fr_isWhole (sx_R c 0) s) = (0 : Int32) from hc8)]
    rw [e]
    try dsimp only
    exact ⟨rfl, rfl⟩
  · skip
    refine pj_J.go (oX13_does G) 5 rfl trivial ?_
    refine pj_J.go1 (pc := 23) (oX13_does G) rfl (po_getD (lo := 5) (hi := 17) (k := 1) (n := 26) (by exact ha) (by decide) (by rfl)) trivial ?_
    refine pj_J.go (oX13_does G) 2 rfl ⟨by exact hs, trivial⟩ ?_
    refine pj_J.go1 (pc := 28) (oX13_does G) rfl (po_getD (lo := 5) (hi := 17) (k := 3) (n := 31) (by exact ha) (by decide) (by rfl)) trivial ?_
    refine pj_J.go (oX13_does G) 1 rfl trivial ?_
    refine pj_J.go1 (pc := 32) (oX13_does G) rfl (po_getD (lo := 5) (hi := 17) (k := 2) (n := 35) (by exact ha) (by decide) (by rfl)) trivial ?_
    refine pj_J.go (oX13_does G) 2 rfl trivial ?_
    refine pj_J.cal0 kX13_does_39 (c_X1_share_0 (c := c) (sx_L (sx_R c 0) 0 s.toNatClampNeg) v t (hO.1 hc8)) ⟨_, _, _, rfl, rfl⟩ pj_le0 pj_le0 pj_le0 ?_
    refine pj_J.go (oX13_does G) 4 rfl trivial ?_
    refine pj_J.go1 (pc := 48) (oX13_does G) rfl (po_getD (lo := 5) (hi := 17) (k := 1) (n := 51) (by exact ha) (by decide) (by rfl)) trivial ?_
    refine pj_J.go (oX13_does G) 4 rfl ⟨by exact hs, by exact (hO.2.1 hc8), trivial⟩ ?_
    refine pj_J.go1 (pc := 57) (oX13_does G) rfl (po_getD (lo := 5) (hi := 17) (k := 3) (n := 60) (by exact ha) (by decide) (by rfl)) trivial ?_
    refine pj_J.go (oX13_does G) 5 rfl trivial ?_
    refine pj_J.go1 (pc := 69) (oX13_does G) rfl (po_getD (lo := 5) (hi := 17) (k := 1) (n := 72) (by exact ha) (by decide) (by rfl)) trivial ?_
    refine pj_J.go (oX13_does G) 3 rfl ⟨by exact hs, trivial⟩ ?_
    refine pj_iret dX13_does_77 rfl ?_
    show _ = _ ∧ _ = _
    have e : fa_split c.1 (sx_R c 0) s t v = ((0 : Int32), sx_sl (sx_si (sx_si (sx_sL (sx_R c 0) 3 (fc_share c.1 (sx_L (sx_R c 0) 0 s.toNatClampNeg) v t (sx_L (sx_R c 0) 3)).1) 4 (sx_I (sx_sL (sx_R c 0) 3 (fc_share c.1 (sx_L (sx_R c 0) 0 s.toNatClampNeg) v t (sx_L (sx_R c 0) 3)).1) 2 s.toNatClampNeg)) 5 v) 6 (sx_L (sx_sL (sx_R c 0) 3 (fc_share c.1 (sx_L (sx_R c 0) 0 s.toNatClampNeg) v t (sx_L (sx_R c 0) 3)).1) 0 s.toNatClampNeg), (sx_sL c.1 14 (fc_share c.1 (sx_L (sx_R c 0) 0 s.toNatClampNeg) v t (sx_L (sx_R c 0) 3)).2)) := by unfold fa_split; rw [if_neg (show ¬ ((fr_isWhole (sx_R c 0) s) = (0 : Int32)) from hc8)]
    rw [e]
    try dsimp only
    exact ⟨rfl, rfl⟩
theorem c_X13_does_1 {G : pj_G} {d : Nat} {c : sx_C} {m : sx_M} {o : Nat → Int64} {D : pj_H} {i : Nat} {kd s t v : Int32} (ha : D[i]? = some (.inr (11, [.int kd, .int s, .int t, .int v]))) (hs : vp_in s 8) (hO : fa_split_ok c.1 (sx_R c 1) s t v) : pj_Rt G mX13_does (d + 3) [.ref (i + 98), .ref 21] (sx_mk c m o D) 0 0 (some (.int (fa_split c.1 (sx_R c 1) s t v).1)) (sx_mk (sx_sR (sx_sM c (fa_split c.1 (sx_R c 1) s t v).2.2) 1 (fa_split c.1 (sx_R c 1) s t v).2.1) m o D) := by
  refine pj_Cn.start ?_
  refine pj_J.go (oX13_does G) 2 rfl trivial ?_
  refine pj_J.go1 (pc := 2) (oX13_does G) rfl (po_getD (lo := 5) (hi := 17) (k := 1) (n := 5) (by exact ha) (by decide) (by rfl)) trivial ?_
  refine pj_J.cal0 kX13_does_5 (c_X2_isWhole_1 (c := c) s hs) ⟨_, _, _, rfl, rfl⟩ pj_le0 pj_le0 pj_le0 ?_
  refine pj_J.go (oX13_does G) 1 rfl trivial ?_
  refine pj_J.ite (fun hc8 => ?_) (fun hc8 => ?_)
  · skip
    refine pj_J.go (oX13_does G) 1 rfl trivial ?_
    refine pj_iret dX13_does_13 rfl ?_
    show _ = _ ∧ _ = _
    have e : fa_split c.1 (sx_R c 1) s t v = ((-5 : Int32), (sx_R c 1), c.1) := by unfold fa_split; rw [if_pos (show (fr_isWhole (sx_R c 1) s) = (0 : Int32) from hc8)]
    rw [e]
    try dsimp only
    exact ⟨rfl, rfl⟩
  · skip
    refine pj_J.go (oX13_does G) 5 rfl trivial ?_
    refine pj_J.go1 (pc := 23) (oX13_does G) rfl (po_getD (lo := 5) (hi := 17) (k := 1) (n := 26) (by exact ha) (by decide) (by rfl)) trivial ?_
    refine pj_J.go (oX13_does G) 2 rfl ⟨by exact hs, trivial⟩ ?_
    refine pj_J.go1 (pc := 28) (oX13_does G) rfl (po_getD (lo := 5) (hi := 17) (k := 3) (n := 31) (by exact ha) (by decide) (by rfl)) trivial ?_
    refine pj_J.go (oX13_does G) 1 rfl trivial ?_
    refine pj_J.go1 (pc := 32) (oX13_does G) rfl (po_getD (lo := 5) (hi := 17) (k := 2) (n := 35) (by exact ha) (by decide) (by rfl)) trivial ?_
    refine pj_J.go (oX13_does G) 2 rfl trivial ?_
    refine pj_J.cal0 kX13_does_39 (c_X1_share_1 (c := c) (sx_L (sx_R c 1) 0 s.toNatClampNeg) v t (hO.1 hc8)) ⟨_, _, _, rfl, rfl⟩ pj_le0 pj_le0 pj_le0 ?_
    refine pj_J.go (oX13_does G) 4 rfl trivial ?_
    refine pj_J.go1 (pc := 48) (oX13_does G) rfl (po_getD (lo := 5) (hi := 17) (k := 1) (n := 51) (by exact ha) (by decide) (by rfl)) trivial ?_
    refine pj_J.go (oX13_does G) 4 rfl ⟨by exact hs, by exact (hO.2.1 hc8), trivial⟩ ?_
    refine pj_J.go1 (pc := 57) (oX13_does G) rfl (po_getD (lo := 5) (hi := 17) (k := 3) (n := 60) (by exact ha) (by decide) (by rfl)) trivial ?_
    refine pj_J.go (oX13_does G) 5 rfl trivial ?_
    refine pj_J.go1 (pc := 69) (oX13_does G) rfl (po_getD (lo := 5) (hi := 17) (k := 1) (n := 72) (by exact ha) (by decide) (by rfl)) trivial ?_
    refine pj_J.go (oX13_does G) 3 rfl ⟨by exact hs, trivial⟩ ?_
    refine pj_iret dX13_does_77 rfl ?_
    show _ = _ ∧ _ = _
    have e : fa_split c.1 (sx_R c 1) s t v = ((0 : Int32), sx_sl (sx_si (sx_si (sx_sL (sx_R c 1) 3 (fc_share c.1 (sx_L (sx_R c 1) 0 s.toNatClampNeg) v t (sx_L (sx_R c 1) 3)).1) 4 (sx_I (sx_sL (sx_R c 1) 3 (fc_share c.1 (sx_L (sx_R c 1) 0 s.toNatClampNeg) v t (sx_L (sx_R c 1) 3)).1) 2 s.toNatClampNeg)) 5 v) 6 (sx_L (sx_sL (sx_R c 1) 3 (fc_share c.1 (sx_L (sx_R c 1) 0 s.toNatClampNeg) v t (sx_L (sx_R c 1) 3)).1) 0 s.toNatClampNeg), (sx_sL c.1 14 (fc_share c.1 (sx_L (sx_R c 1) 0 s.toNatClampNeg) v t (sx_L (sx_R c 1) 3)).2)) := by unfold fa_split; rw [if_neg (show ¬ ((fr_isWhole (sx_R c 1) s) = (0 : Int32)) from hc8)]
    rw [e]
    try dsimp only
    exact ⟨rfl, rfl⟩
theorem c_X13_does_2 {G : pj_G} {d : Nat} {c : sx_C} {m : sx_M} {o : Nat → Int64} {D : pj_H} {i : Nat} {kd s t v : Int32} (ha : D[i]? = some (.inr (11, [.int kd, .int s, .int t, .int v]))) (hs : vp_in s 8) (hO : fa_split_ok c.1 (sx_R c 2) s t v) : pj_Rt G mX13_does (d + 3) [.ref (i + 98), .ref 32] (sx_mk c m o D) 0 0 (some (.int (fa_split c.1 (sx_R c 2) s t v).1)) (sx_mk (sx_sR (sx_sM c (fa_split c.1 (sx_R c 2) s t v).2.2) 2 (fa_split c.1 (sx_R c 2) s t v).2.1) m o D) := by
  refine pj_Cn.start ?_
  refine pj_J.go (oX13_does G) 2 rfl trivial ?_
  refine pj_J.go1 (pc := 2) (oX13_does G) rfl (po_getD (lo := 5) (hi := 17) (k := 1) (n := 5) (by exact ha) (by decide) (by rfl)) trivial ?_
  refine pj_J.cal0 kX13_does_5 (c_X2_isWhole_2 (c := c) s hs) ⟨_, _, _, rfl, rfl⟩ pj_le0 pj_le0 pj_le0 ?_
  refine pj_J.go (oX13_does G) 1 rfl trivial ?_
  refine pj_J.ite (fun hc8 => ?_) (fun hc8 => ?_)
  · skip
    refine pj_J.go (oX13_does G) 1 rfl trivial ?_
    refine pj_iret dX13_does_13 rfl ?_
    show _ = _ ∧ _ = _
    have e : fa_split c.1 (sx_R c 2) s t v = ((-5 : Int32), (sx_R c 2), c.1) := by unfold fa_split; rw [if_pos (show (fr_isWhole (sx_R c 2) s) = (0 : Int32) from hc8)]
    rw [e]
    try dsimp only
    exact ⟨rfl, rfl⟩
  · skip
    refine pj_J.go (oX13_does G) 5 rfl trivial ?_
    refine pj_J.go1 (pc := 23) (oX13_does G) rfl (po_getD (lo := 5) (hi := 17) (k := 1) (n := 26) (by exact ha) (by decide) (by rfl)) trivial ?_
    refine pj_J.go (oX13_does G) 2 rfl ⟨by exact hs, trivial⟩ ?_
    refine pj_J.go1 (pc := 28) (oX13_does G) rfl (po_getD (lo := 5) (hi := 17) (k := 3) (n := 31) (by exact ha) (by decide) (by rfl)) trivial ?_
    refine pj_J.go (oX13_does G) 1 rfl trivial ?_
    refine pj_J.go1 (pc := 32) (oX13_does G) rfl (po_getD (lo := 5) (hi := 17) (k := 2) (n := 35) (by exact ha) (by decide) (by rfl)) trivial ?_
    refine pj_J.go (oX13_does G) 2 rfl trivial ?_
    refine pj_J.cal0 kX13_does_39 (c_X1_share_2 (c := c) (sx_L (sx_R c 2) 0 s.toNatClampNeg) v t (hO.1 hc8)) ⟨_, _, _, rfl, rfl⟩ pj_le0 pj_le0 pj_le0 ?_
    refine pj_J.go (oX13_does G) 4 rfl trivial ?_
    refine pj_J.go1 (pc := 48) (oX13_does G) rfl (po_getD (lo := 5) (hi := 17) (k := 1) (n := 51) (by exact ha) (by decide) (by rfl)) trivial ?_
    refine pj_J.go (oX13_does G) 4 rfl ⟨by exact hs, by exact (hO.2.1 hc8), trivial⟩ ?_
    refine pj_J.go1 (pc := 57) (oX13_does G) rfl (po_getD (lo := 5) (hi := 17) (k := 3) (n := 60) (by exact ha) (by decide) (by rfl)) trivial ?_
    refine pj_J.go (oX13_does G) 5 rfl trivial ?_
    refine pj_J.go1 (pc := 69) (oX13_does G) rfl (po_getD (lo := 5) (hi := 17) (k := 1) (n := 72) (by exact ha) (by decide) (by rfl)) trivial ?_
    refine pj_J.go (oX13_does G) 3 rfl ⟨by exact hs, trivial⟩ ?_
    refine pj_iret dX13_does_77 rfl ?_
    show _ = _ ∧ _ = _
    have e : fa_split c.1 (sx_R c 2) s t v = ((0 : Int32), sx_sl (sx_si (sx_si (sx_sL (sx_R c 2) 3 (fc_share c.1 (sx_L (sx_R c 2) 0 s.toNatClampNeg) v t (sx_L (sx_R c 2) 3)).1) 4 (sx_I (sx_sL (sx_R c 2) 3 (fc_share c.1 (sx_L (sx_R c 2) 0 s.toNatClampNeg) v t (sx_L (sx_R c 2) 3)).1) 2 s.toNatClampNeg)) 5 v) 6 (sx_L (sx_sL (sx_R c 2) 3 (fc_share c.1 (sx_L (sx_R c 2) 0 s.toNatClampNeg) v t (sx_L (sx_R c 2) 3)).1) 0 s.toNatClampNeg), (sx_sL c.1 14 (fc_share c.1 (sx_L (sx_R c 2) 0 s.toNatClampNeg) v t (sx_L (sx_R c 2) 3)).2)) := by unfold fa_split; rw [if_neg (show ¬ ((fr_isWhole (sx_R c 2) s) = (0 : Int32)) from hc8)]
    rw [e]
    try dsimp only
    exact ⟨rfl, rfl⟩
