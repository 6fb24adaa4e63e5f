/-! PennyJudge: told, set, count, firstBreak, least (by tools/gen_r3.py) -/
set_option maxRecDepth 100000
theorem c_X1_told0 {G : pj_G} {d : Nat} {c : sx_C} {m : sx_M} {o : Nat → Int64} {D : pj_H} (p i w : Int32) (h : fc_isProgram c.1 p = 0) : pj_Rt G mX1_told (d + 2) [.ref 2, .int p, .int i, .int w] (sx_mk c m o D) 0 0 (some (.int (-1))) (sx_mk c m o D) := by
  refine pj_Cn.start ?_
  refine pj_J.go (oX1_told G) 2 rfl trivial ?_
  refine pj_J.cal0 kX1_told_2 (c_X1_isProgram (c := c) p) ⟨_, _, _, rfl, rfl⟩ pj_le0 pj_le0 pj_le0 ?_
  refine pj_J.go (oX1_told G) 1 rfl trivial ?_
  refine pj_J.pos (h) ?_
  refine pj_J.go (oX1_told G) 1 rfl trivial ?_
  exact pj_iret dX1_told_26 rfl ⟨rfl, rfl⟩
theorem c_X1_told1 {G : pj_G} {d : Nat} {c : sx_C} {m : sx_M} {o : Nat → Int64} {D : pj_H} (p i w : Int32) (h : ¬ fc_isProgram c.1 p = 0) (hp4 : vp_in p 4) {pi : Nat} (hpi : sx_P c p.toNatClampNeg = some (pi + 98)) {ai n : Nat} {cn cd : Int64} (hn : n ≤ 20) (hp : D[pi]? = some (.inr (4, [.ref (ai + 98), .int (nI n), .long cn, .long cd]))) (hi : i < 0 ∨ ¬ i < nI n) : pj_Rt G mX1_told (d + 2) [.ref 2, .int p, .int i, .int w] (sx_mk c m o D) 0 0 (some (.int (-1))) (sx_mk c m o D) := by
  refine pj_Cn.start ?_
  refine pj_J.go (oX1_told G) 2 rfl trivial ?_
  refine pj_J.cal0 kX1_told_2 (c_X1_isProgram (c := c) p) ⟨_, _, _, rfl, rfl⟩ pj_le0 pj_le0 pj_le0 ?_
  refine pj_J.go (oX1_told G) 1 rfl trivial ?_
  refine pj_J.neg (h) ?_
  refine pj_J.go (oX1_told G) 2 rfl trivial ?_
  refine pj_J.ite (fun hc9 => ?_) (fun hc9 => ?_)
  · skip
    refine pj_J.go (oX1_told G) 1 rfl trivial ?_
    exact pj_iret dX1_told_26 rfl ⟨rfl, rfl⟩
  · skip
    refine pj_J.go (oX1_told G) 5 rfl ⟨by exact hp4, trivial⟩ ?_
    refine pj_J.seq (show va_rf (sx_P c p.toNatClampNeg) :: _ = .ref (pi + 98) :: _ by rw [hpi]; rfl) ?_
    refine pj_J.go1 (pc := 19) (oX1_told G) rfl (po_getD (lo := 4) (hi := 4) (k := 1) (n := 22) (by exact hp) (by decide) (by rfl)) trivial ?_
    refine pj_J.go (oX1_told G) 1 rfl trivial ?_
    refine pj_J.ite (fun hc22 => ?_) (fun hc22 => ?_)
    · skip
      exfalso
      rcases hi with hi | hi
      · exact hc9 hi
      · exact hi hc22
    · skip
      refine pj_J.go (oX1_told G) 1 rfl trivial ?_
      exact pj_iret dX1_told_26 rfl ⟨rfl, rfl⟩
theorem c_X1_set0 {G : pj_G} {d : Nat} {c : sx_C} {m : sx_M} {o : Nat → Int64} {D : pj_H} (p i t2 v2 : Int32) (h : fc_isProgram c.1 p = 0) : pj_Rt G mX1_set (d + 2) [.ref 2, .int p, .int i, .int t2, .int v2] (sx_mk c m o D) 0 0 (some (.int (-1))) (sx_mk c m o D) := by
  refine pj_Cn.start ?_
  refine pj_J.go (oX1_set G) 2 rfl trivial ?_
  refine pj_J.cal0 kX1_set_2 (c_X1_isProgram (c := c) p) ⟨_, _, _, rfl, rfl⟩ pj_le0 pj_le0 pj_le0 ?_
  refine pj_J.go (oX1_set G) 1 rfl trivial ?_
  refine pj_J.pos (h) ?_
  refine pj_J.go (oX1_set G) 1 rfl trivial ?_
  exact pj_iret dX1_set_26 rfl ⟨rfl, rfl⟩
theorem c_X1_set1 {G : pj_G} {d : Nat} {c : sx_C} {m : sx_M} {o : Nat → Int64} {D : pj_H} (p i t2 v2 : Int32) (h : ¬ fc_isProgram c.1 p = 0) (hp4 : vp_in p 4) {pi : Nat} (hpi : sx_P c p.toNatClampNeg = some (pi + 98)) {ai n : Nat} {cn cd : Int64} (hn : n ≤ 20) (hp : D[pi]? = some (.inr (4, [.ref (ai + 98), .int (nI n), .long cn, .long cd]))) (hi : i < 0 ∨ ¬ i < nI n) : pj_Rt G mX1_set (d + 2) [.ref 2, .int p, .int i, .int t2, .int v2] (sx_mk c m o D) 0 0 (some (.int (-1))) (sx_mk c m o D) := by
  refine pj_Cn.start ?_
  refine pj_J.go (oX1_set G) 2 rfl trivial ?_
  refine pj_J.cal0 kX1_set_2 (c_X1_isProgram (c := c) p) ⟨_, _, _, rfl, rfl⟩ pj_le0 pj_le0 pj_le0 ?_
  refine pj_J.go (oX1_set G) 1 rfl trivial ?_
  refine pj_J.neg (h) ?_
  refine pj_J.go (oX1_set G) 2 rfl trivial ?_
  refine pj_J.ite (fun hc9 => ?_) (fun hc9 => ?_)
  · skip
    refine pj_J.go (oX1_set G) 1 rfl trivial ?_
    exact pj_iret dX1_set_26 rfl ⟨rfl, rfl⟩
  · skip
    refine pj_J.go (oX1_set G) 5 rfl ⟨by exact hp4, trivial⟩ ?_
    refine pj_J.seq (show va_rf (sx_P c p.toNatClampNeg) :: _ = .ref (pi + 98) :: _ by rw [hpi]; rfl) ?_
    refine pj_J.go1 (pc := 19) (oX1_set G) rfl (po_getD (lo := 4) (hi := 4) (k := 1) (n := 22) (by exact hp) (by decide) (by rfl)) trivial ?_
    refine pj_J.go (oX1_set G) 1 rfl trivial ?_
    refine pj_J.ite (fun hc22 => ?_) (fun hc22 => ?_)
    · skip
      exfalso
      rcases hi with hi | hi
      · exact hc9 hi
      · exact hi hc22
    · skip
      refine pj_J.go (oX1_set G) 1 rfl trivial ?_
      exact pj_iret dX1_set_26 rfl ⟨rfl, rfl⟩
def fc_told (a : Nat) (s t v w : Int32) : Int32 := if w = 0 then nI a else if w = 1 then s else if w = 2 then t else if w = 3 then v else -1
theorem c_X1_told2 {G : pj_G} {d : Nat} {c : sx_C} {m : sx_M} {o : Nat → Int64} {D : pj_H} (p w : Int32) (h : ¬ fc_isProgram c.1 p = 0) (hp4 : vp_in p 4) {pi : Nat} (hpi : sx_P c p.toNatClampNeg = some (pi + 98)) {ai n : Nat} {cn cd : Int64} (hn : n ≤ 20) (hp : D[pi]? = some (.inr (4, [.ref (ai + 98), .int (nI n), .long cn, .long cd]))) {f : Nat → Option Nat} (hf : D[ai]? = some (.inl (7, (20, .inr (.inr (.inr (.inr f))))))) {k x a : Nat} (hk : k < n) (hx : f k = some (x + 98)) (ha13 : a < 13) {s t v : Int32} (ha : D[x]? = some (.inr (5 + a, [.int (nI a), .int s, .int t, .int v]))) : pj_Rt G mX1_told (d + 2) [.ref 2, .int p, .int (nI k), .int w] (sx_mk c m o D) 0 0 (some (.int (fc_told a s t v w))) (sx_mk c m o D) := by
  refine pj_Cn.start ?_
  refine pj_J.go (oX1_told G) 2 rfl trivial ?_
  refine pj_J.cal0 kX1_told_2 (c_X1_isProgram (c := c) p) ⟨_, _, _, rfl, rfl⟩ pj_le0 pj_le0 pj_le0 ?_
  refine pj_J.go (oX1_told G) 1 rfl trivial ?_
  refine pj_J.neg (h) ?_
  refine pj_J.go (oX1_told G) 2 rfl trivial ?_
  refine pj_J.neg (nI_nn (by omega)) ?_
  refine pj_J.go (oX1_told G) 5 rfl ⟨by exact hp4, trivial⟩ ?_
  refine pj_J.seq (show va_rf (sx_P c p.toNatClampNeg) :: _ = .ref (pi + 98) :: _ by rw [hpi]; rfl) ?_
  refine pj_J.go1 (pc := 19) (oX1_told G) rfl (po_getD (lo := 4) (hi := 4) (k := 1) (n := 22) (by exact hp) (by decide) (by rfl)) trivial ?_
  refine pj_J.go (oX1_told G) 1 rfl trivial ?_
  refine pj_J.pos (nI_lt hk (by omega)) ?_
  refine pj_J.go (oX1_told G) 4 rfl ⟨by exact hp4, trivial⟩ ?_
  refine pj_J.seq (show va_rf (sx_P c p.toNatClampNeg) :: _ = .ref (pi + 98) :: _ by rw [hpi]; rfl) ?_
  refine pj_J.go1 (pc := 33) (oX1_told G) rfl (po_getD (lo := 4) (hi := 4) (k := 0) (n := 36) (by exact hp) (by decide) (by rfl)) trivial ?_
  refine pj_J.go (oX1_told G) 1 rfl trivial ?_
  refine pj_J.go1 (pc := 37) (oX1_told G) rfl (po_aaldD (n := 38) (by exact hf) (by decide)) (by exact vp_in_lit (by omega)) ?_
  refine pj_J.seq (show va_rf (f (nI k).toNatClampNeg) :: _ = .ref (x + 98) :: _ by rw [nI_clamp (by omega), hx]; rfl) ?_
  refine pj_J.go (oX1_told G) 3 rfl trivial ?_
  refine pj_J.swc (fun hs41_0 => ?_) (fun hs41_0 => ?_)
  · skip
    refine pj_J.go (oX1_told G) 1 rfl trivial ?_
    refine pj_J.go1 (pc := 74) (oX1_told G) rfl (po_getD (lo := 5) (hi := 17) (k := 0) (n := 77) (by exact ha) (by omega) (by rfl)) trivial ?_
    refine pj_iret dX1_told_77 rfl ?_
    show _ = _ ∧ _ = _
    unfold fc_told
    rw [if_pos (show w = (0 : Int32) from hs41_0)]
    exact ⟨rfl, rfl⟩
  refine pj_J.swc (fun hs41_1 => ?_) (fun hs41_1 => ?_)
  · skip
    refine pj_J.go (oX1_told G) 1 rfl trivial ?_
    refine pj_J.go1 (pc := 80) (oX1_told G) rfl (po_getD (lo := 5) (hi := 17) (k := 1) (n := 83) (by exact ha) (by omega) (by rfl)) trivial ?_
    refine pj_iret dX1_told_83 rfl ?_
    show _ = _ ∧ _ = _
    unfold fc_told
    rw [if_neg (show ¬ (w = (0 : Int32)) from hs41_0), if_pos (show w = (1 : Int32) from hs41_1)]
    exact ⟨rfl, rfl⟩
  refine pj_J.swc (fun hs41_2 => ?_) (fun hs41_2 => ?_)
  · skip
    refine pj_J.go (oX1_told G) 1 rfl trivial ?_
    refine pj_J.go1 (pc := 86) (oX1_told G) rfl (po_getD (lo := 5) (hi := 17) (k := 2) (n := 89) (by exact ha) (by omega) (by rfl)) trivial ?_
    refine pj_iret dX1_told_89 rfl ?_
    show _ = _ ∧ _ = _
    unfold fc_told
    rw [if_neg (show ¬ (w = (0 : Int32)) from hs41_0), if_neg (show ¬ (w = (1 : Int32)) from hs41_1), if_pos (show w = (2 : Int32) from hs41_2)]
    exact ⟨rfl, rfl⟩
  refine pj_J.swc (fun hs41_3 => ?_) (fun hs41_3 => ?_)
  · skip
    refine pj_J.go (oX1_told G) 1 rfl trivial ?_
    refine pj_J.go1 (pc := 92) (oX1_told G) rfl (po_getD (lo := 5) (hi := 17) (k := 3) (n := 95) (by exact ha) (by omega) (by rfl)) trivial ?_
    refine pj_iret dX1_told_95 rfl ?_
    show _ = _ ∧ _ = _
    unfold fc_told
    rw [if_neg (show ¬ (w = (0 : Int32)) from hs41_0), if_neg (show ¬ (w = (1 : Int32)) from hs41_1), if_neg (show ¬ (w = (2 : Int32)) from hs41_2), if_pos (show w = (3 : Int32) from hs41_3)]
    exact ⟨rfl, rfl⟩
  refine pj_J.swn ?_
  refine pj_J.go (oX1_told G) 1 rfl trivial ?_
  refine pj_iret dX1_told_97 rfl ?_
  show _ = _ ∧ _ = _
  unfold fc_told
  rw [if_neg (show ¬ (w = (0 : Int32)) from hs41_0), if_neg (show ¬ (w = (1 : Int32)) from hs41_1), if_neg (show ¬ (w = (2 : Int32)) from hs41_2), if_neg (show ¬ (w = (3 : Int32)) from hs41_3)]
  exact ⟨rfl, rfl⟩
def fc_setD (D : pj_H) (x a : Nat) (s t v t2 v2 : Int32) : Int32 × pj_H := if fc_fits (nI a) t2 v2 = 0 then (-1, D) else (0, (D.set x (.inr (5 + a, [.int (nI a), .int s, .int t2, .int v]))).set x (.inr (5 + a, [.int (nI a), .int s, .int t2, .int v2])))
theorem c_X1_set2 {G : pj_G} {d : Nat} {c : sx_C} {m : sx_M} {o : Nat → Int64} {D : pj_H} (p t2 v2 : Int32) (h : ¬ fc_isProgram c.1 p = 0) (hp4 : vp_in p 4) {pi : Nat} (hpi : sx_P c p.toNatClampNeg = some (pi + 98)) {ai n : Nat} {cn cd : Int64} (hn : n ≤ 20) (hp : D[pi]? = some (.inr (4, [.ref (ai + 98), .int (nI n), .long cn, .long cd]))) {f : Nat → Option Nat} (hf : D[ai]? = some (.inl (7, (20, .inr (.inr (.inr (.inr f))))))) {k x a : Nat} (hk : k < n) (hx : f k = some (x + 98)) (ha13 : a < 13) {s t v : Int32} (ha : D[x]? = some (.inr (5 + a, [.int (nI a), .int s, .int t, .int v]))) : pj_Rt G mX1_set (d + 2) [.ref 2, .int p, .int (nI k), .int t2, .int v2] (sx_mk c m o D) 0 0 (some (.int (fc_setD D x a s t v t2 v2).1)) (sx_mk c m o (fc_setD D x a s t v t2 v2).2) := by
  refine pj_Cn.start ?_
  refine pj_J.go (oX1_set G) 2 rfl trivial ?_
  refine pj_J.cal0 kX1_set_2 (c_X1_isProgram (c := c) p) ⟨_, _, _, rfl, rfl⟩ pj_le0 pj_le0 pj_le0 ?_
  refine pj_J.go (oX1_set G) 1 rfl trivial ?_
  refine pj_J.neg (h) ?_
  refine pj_J.go (oX1_set G) 2 rfl trivial ?_
  refine pj_J.neg (nI_nn (by omega)) ?_
  refine pj_J.go (oX1_set G) 5 rfl ⟨by exact hp4, trivial⟩ ?_
  refine pj_J.seq (show va_rf (sx_P c p.toNatClampNeg) :: _ = .ref (pi + 98) :: _ by rw [hpi]; rfl) ?_
  refine pj_J.go1 (pc := 19) (oX1_set G) rfl (po_getD (lo := 4) (hi := 4) (k := 1) (n := 22) (by exact hp) (by decide) (by rfl)) trivial ?_
  refine pj_J.go (oX1_set G) 1 rfl trivial ?_
  refine pj_J.pos (nI_lt hk (by omega)) ?_
  refine pj_J.go (oX1_set G) 4 rfl ⟨by exact hp4, trivial⟩ ?_
  refine pj_J.seq (show va_rf (sx_P c p.toNatClampNeg) :: _ = .ref (pi + 98) :: _ by rw [hpi]; rfl) ?_
  refine pj_J.go1 (pc := 33) (oX1_set G) rfl (po_getD (lo := 4) (hi := 4) (k := 0) (n := 36) (by exact hp) (by decide) (by rfl)) trivial ?_
  refine pj_J.go (oX1_set G) 1 rfl trivial ?_
  refine pj_J.go1 (pc := 37) (oX1_set G) rfl (po_aaldD (n := 38) (by exact hf) (by decide)) (by exact vp_in_lit (by omega)) ?_
  refine pj_J.seq (show va_rf (f (nI k).toNatClampNeg) :: _ = .ref (x + 98) :: _ by rw [nI_clamp (by omega), hx]; rfl) ?_
  refine pj_J.go (oX1_set G) 2 rfl trivial ?_
  refine pj_J.go1 (pc := 42) (oX1_set G) rfl (po_getD (lo := 5) (hi := 17) (k := 0) (n := 45) (by exact ha) (by omega) (by rfl)) trivial ?_
  refine pj_J.go (oX1_set G) 2 rfl trivial ?_
  refine pj_J.cal0 kX1_set_48 (c_X1_fits (nI a) t2 v2) trivial pj_le0 pj_le0 pj_le0 ?_
  refine pj_J.go (oX1_set G) 1 rfl trivial ?_
  refine pj_J.ite (fun hc51 => ?_) (fun hc51 => ?_)
  · skip
    refine pj_J.go (oX1_set G) 1 rfl trivial ?_
    refine pj_iret dX1_set_55 rfl ?_
    show _ = _ ∧ _ = _
    have e : fc_setD D x a s t v t2 v2 = ((-1 : Int32), D) := by unfold fc_setD; rw [if_pos (show (fc_fits (nI a) t2 v2) = (0 : Int32) from hc51)]
    rw [e]
    exact ⟨rfl, rfl⟩
  · skip
    refine pj_J.go (oX1_set G) 2 rfl trivial ?_
    refine pj_J.go1 (pc := 59) (oX1_set G) rfl (po_putD (cnd := none) (lo := 5) (hi := 17) (k := 2) (ty := .int) (n := 62) (by exact ha) (by omega) (by exact Nat.le_of_ble_eq_true rfl) (by rfl)) trivial ?_
    refine pj_J.go (oX1_set G) 2 rfl trivial ?_
    refine pj_J.go1 (pc := 66) (oX1_set G) rfl (po_putD (cnd := none) (lo := 5) (hi := 17) (k := 3) (ty := .int) (n := 69) (by exact (sx_set_at ha)) (by omega) (by exact Nat.le_of_ble_eq_true rfl) (by rfl)) trivial ?_
    refine pj_J.go (oX1_set G) 1 rfl trivial ?_
    refine pj_iret dX1_set_70 rfl ?_
    show _ = _ ∧ _ = _
    have e : fc_setD D x a s t v t2 v2 = ((0 : Int32), ((D.set x (.inr (5 + a, [.int (nI a), .int s, .int t2, .int v]))).set x (.inr (5 + a, [.int (nI a), .int s, .int t2, .int v2])))) := by unfold fc_setD; rw [if_neg (show ¬ ((fc_fits (nI a) t2 v2) = (0 : Int32)) from hc51)]
    rw [e]
    exact ⟨rfl, rfl⟩
theorem vp_m20 {w : Int32} (h1 : ¬ w < 20) (h2 : ¬ 24 ≤ w) : vp_in (w - 20) 4 := by
  have e20 : (20 : Int32).toInt = 20 := rfl
  have e24 : (24 : Int32).toInt = 24 := rfl
  rw [Int32.lt_iff_toInt_lt, e20] at h1
  rw [Int32.le_iff_toInt_le, e24] at h2
  have e : w = nI w.toInt.toNat := by
    apply Int32.toInt_inj.mp
    rw [nI_toInt (by omega)]
    omega
  rw [e, show (20 : Int32) = nI 20 from rfl, pk_sub (by omega)]
  exact vp_in_nI (by omega) (by decide)
def fc_countA (u : sx_M) (w : Int32) : Int32 := if w = 0 then sx_i u 3 else if w = 1 then sx_i u 7 else if w = 2 then sx_i u 9 else if w = 3 then sx_i u 24 else if w < 20 then -1 else if 24 ≤ w then -1 else sx_I u 5 (w - 20).toNatClampNeg
theorem c_X1_count0 {G : pj_G} {d : Nat} {c : sx_C} {m : sx_M} {o : Nat → Int64} {D : pj_H} (w : Int32) (h : w < 10 ∨ sx_i c.1 7 ≤ w - 10) : pj_Rt G mX1_count d [.ref 2, .int w] (sx_mk c m o D) 0 0 (some (.int (fc_countA c.1 w))) (sx_mk c m o D) := by
  refine pj_Cn.start ?_
  refine pj_J.go (oX1_count G) 2 rfl trivial ?_
  refine pj_J.swc (fun hs1_0 => ?_) (fun hs1_0 => ?_)
  · skip
    refine pj_J.go (oX1_count G) 2 rfl trivial ?_
    refine pj_iret dX1_count_36 rfl ?_
    show _ = _ ∧ _ = _
    unfold fc_countA
    rw [if_pos (show w = (0 : Int32) from hs1_0)]
    exact ⟨rfl, rfl⟩
  refine pj_J.swc (fun hs1_1 => ?_) (fun hs1_1 => ?_)
  · skip
    refine pj_J.go (oX1_count G) 2 rfl trivial ?_
    refine pj_iret dX1_count_41 rfl ?_
    show _ = _ ∧ _ = _
    unfold fc_countA
    rw [if_neg (show ¬ (w = (0 : Int32)) from hs1_0), if_pos (show w = (1 : Int32) from hs1_1)]
    exact ⟨rfl, rfl⟩
  refine pj_J.swc (fun hs1_2 => ?_) (fun hs1_2 => ?_)
  · skip
    refine pj_J.go (oX1_count G) 2 rfl trivial ?_
    refine pj_iret dX1_count_46 rfl ?_
    show _ = _ ∧ _ = _
    unfold fc_countA
    rw [if_neg (show ¬ (w = (0 : Int32)) from hs1_0), if_neg (show ¬ (w = (1 : Int32)) from hs1_1), if_pos (show w = (2 : Int32) from hs1_2)]
    exact ⟨rfl, rfl⟩
  refine pj_J.swc (fun hs1_3 => ?_) (fun hs1_3 => ?_)
  · skip
    refine pj_J.go (oX1_count G) 2 rfl trivial ?_
    refine pj_iret dX1_count_51 rfl ?_
    show _ = _ ∧ _ = _
    unfold fc_countA
    rw [if_neg (show ¬ (w = (0 : Int32)) from hs1_0), if_neg (show ¬ (w = (1 : Int32)) from hs1_1), if_neg (show ¬ (w = (2 : Int32)) from hs1_2), if_pos (show w = (3 : Int32) from hs1_3)]
    exact ⟨rfl, rfl⟩
  refine pj_J.swn ?_
  refine pj_J.go (oX1_count G) 3 rfl trivial ?_
  refine pj_J.ite (fun hc55 => ?_) (fun hc55 => ?_)
  · skip
    refine pj_J.go (oX1_count G) 3 rfl trivial ?_
    refine pj_J.ite (fun hc85 => ?_) (fun hc85 => ?_)
    · skip
      refine pj_J.go (oX1_count G) 1 rfl trivial ?_
      refine pj_iret dX1_count_105 rfl ?_
      show _ = _ ∧ _ = _
      unfold fc_countA
      rw [if_neg (show ¬ (w = (0 : Int32)) from hs1_0), if_neg (show ¬ (w = (1 : Int32)) from hs1_1), if_neg (show ¬ (w = (2 : Int32)) from hs1_2), if_neg (show ¬ (w = (3 : Int32)) from hs1_3), if_pos (show w < (20 : Int32) from hc85)]
      exact ⟨rfl, rfl⟩
    · skip
      refine pj_J.go (oX1_count G) 3 rfl trivial ?_
      refine pj_J.ite (fun hc91 => ?_) (fun hc91 => ?_)
      · skip
        refine pj_J.go (oX1_count G) 1 rfl trivial ?_
        refine pj_iret dX1_count_105 rfl ?_
        show _ = _ ∧ _ = _
        unfold fc_countA
        rw [if_neg (show ¬ (w = (0 : Int32)) from hs1_0), if_neg (show ¬ (w = (1 : Int32)) from hs1_1), if_neg (show ¬ (w = (2 : Int32)) from hs1_2), if_neg (show ¬ (w = (3 : Int32)) from hs1_3), if_neg (show ¬ (w < (20 : Int32)) from hc85), if_pos (show (24 : Int32) ≤ w from hc91)]
        exact ⟨rfl, rfl⟩
      · skip
        refine pj_J.go (oX1_count G) 6 rfl ⟨by exact vp_m20 hc85 hc91, trivial⟩ ?_
        refine pj_iret dX1_count_103 rfl ?_
        show _ = _ ∧ _ = _
        unfold fc_countA
        rw [if_neg (show ¬ (w = (0 : Int32)) from hs1_0), if_neg (show ¬ (w = (1 : Int32)) from hs1_1), if_neg (show ¬ (w = (2 : Int32)) from hs1_2), if_neg (show ¬ (w = (3 : Int32)) from hs1_3), if_neg (show ¬ (w < (20 : Int32)) from hc85), if_neg (show ¬ ((24 : Int32) ≤ w) from hc91)]
        exact ⟨rfl, rfl⟩
  · skip
    refine pj_J.go (oX1_count G) 6 rfl trivial ?_
    refine pj_J.ite (fun hc66 => ?_) (fun hc66 => ?_)
    · skip
      refine pj_J.go (oX1_count G) 3 rfl trivial ?_
      refine pj_J.ite (fun hc85 => ?_) (fun hc85 => ?_)
      · skip
        refine pj_J.go (oX1_count G) 1 rfl trivial ?_
        refine pj_iret dX1_count_105 rfl ?_
        show _ = _ ∧ _ = _
        unfold fc_countA
        rw [if_neg (show ¬ (w = (0 : Int32)) from hs1_0), if_neg (show ¬ (w = (1 : Int32)) from hs1_1), if_neg (show ¬ (w = (2 : Int32)) from hs1_2), if_neg (show ¬ (w = (3 : Int32)) from hs1_3), if_pos (show w < (20 : Int32) from hc85)]
        exact ⟨rfl, rfl⟩
      · skip
        refine pj_J.go (oX1_count G) 3 rfl trivial ?_
        refine pj_J.ite (fun hc91 => ?_) (fun hc91 => ?_)
        · skip
          refine pj_J.go (oX1_count G) 1 rfl trivial ?_
          refine pj_iret dX1_count_105 rfl ?_
          show _ = _ ∧ _ = _
          unfold fc_countA
          rw [if_neg (show ¬ (w = (0 : Int32)) from hs1_0), if_neg (show ¬ (w = (1 : Int32)) from hs1_1), if_neg (show ¬ (w = (2 : Int32)) from hs1_2), if_neg (show ¬ (w = (3 : Int32)) from hs1_3), if_neg (show ¬ (w < (20 : Int32)) from hc85), if_pos (show (24 : Int32) ≤ w from hc91)]
          exact ⟨rfl, rfl⟩
        · skip
          refine pj_J.go (oX1_count G) 6 rfl ⟨by exact vp_m20 hc85 hc91, trivial⟩ ?_
          refine pj_iret dX1_count_103 rfl ?_
          show _ = _ ∧ _ = _
          unfold fc_countA
          rw [if_neg (show ¬ (w = (0 : Int32)) from hs1_0), if_neg (show ¬ (w = (1 : Int32)) from hs1_1), if_neg (show ¬ (w = (2 : Int32)) from hs1_2), if_neg (show ¬ (w = (3 : Int32)) from hs1_3), if_neg (show ¬ (w < (20 : Int32)) from hc85), if_neg (show ¬ ((24 : Int32) ≤ w) from hc91)]
          exact ⟨rfl, rfl⟩
    · skip
      exfalso
      rcases h with h | h
      · exact hc55 h
      · exact hc66 h
theorem c_X1_count1 {G : pj_G} {d : Nat} {c : sx_C} {m : sx_M} {o : Nat → Int64} {D : pj_H} (w : Int32) (h3 : ¬ w < 10) (h4 : ¬ sx_i c.1 7 ≤ w - 10) (hw : ¬ w = 0 ∧ ¬ w = 1 ∧ ¬ w = 2 ∧ ¬ w = 3) (hp4 : vp_in (w - 10) 4) {pi : Nat} (hpi : sx_P c (w - 10).toNatClampNeg = some (pi + 98)) {ai n : Nat} {cn cd : Int64} (hn : n ≤ 20) (hp : D[pi]? = some (.inr (4, [.ref (ai + 98), .int (nI n), .long cn, .long cd]))) : pj_Rt G mX1_count d [.ref 2, .int w] (sx_mk c m o D) 0 0 (some (.int (nI n))) (sx_mk c m o D) := by
  refine pj_Cn.start ?_
  refine pj_J.go (oX1_count G) 2 rfl trivial ?_
  refine pj_J.swc (fun h => absurd h (hw.1)) (fun _ => ?_)
  refine pj_J.swc (fun h => absurd h (hw.2.1)) (fun _ => ?_)
  refine pj_J.swc (fun h => absurd h (hw.2.2.1)) (fun _ => ?_)
  refine pj_J.swc (fun h => absurd h (hw.2.2.2)) (fun _ => ?_)
  refine pj_J.swn ?_
  refine pj_J.go (oX1_count G) 3 rfl trivial ?_
  refine pj_J.neg (h3) ?_
  refine pj_J.go (oX1_count G) 6 rfl trivial ?_
  refine pj_J.neg (h4) ?_
  refine pj_J.go (oX1_count G) 6 rfl ⟨by exact hp4, trivial⟩ ?_
  refine pj_J.seq (show va_rf (sx_P c (w - 10).toNatClampNeg) :: _ = .ref (pi + 98) :: _ by rw [hpi]; rfl) ?_
  refine pj_J.go1 (pc := 78) (oX1_count G) rfl (po_getD (lo := 4) (hi := 4) (k := 1) (n := 81) (by exact hp) (by decide) (by rfl)) trivial ?_
  exact pj_iret dX1_count_81 rfl ⟨rfl, rfl⟩
def fc_lsL (B : sx_C → Int32 → Int32 × sx_C) : Nat → Int32 → sx_C → Int32 × sx_C
  | 0, _, m => (9999999, m)
  | e + 1, u, m => if (B m u).1 = 0 then fc_lsL B e (u + 1) (B m u).2 else (u, (B m u).2)
def fc_firstBreak (B : sx_C → Int32 → Int32 × sx_C) (c : sx_C) (x y : Int32) : Int32 × sx_C := fc_lsL B (y.toInt + 1 - x.toInt).toNat x c
theorem lb_fbN {G : pj_G} {d : Nat} {c : sx_C} {m : sx_M} {o : Nat → Int64} {D : pj_H} {Q : pj_O → pj_H → Prop} {pi : Nat} (law x y u : Int32) (hu : ¬ y < u) (r : Int32) (c1 : sx_C) (cb : pj_Rt G mX1_breaksLaw d [.ref 2, .ref (pi + 98), .int law, .null, .int u] (sx_mk c m o D) 0 0 (some (.int r)) (sx_mk c1 m o D)) (q : ¬ r = 0 → Q (.inl (some (.int u))) (sx_mk c1 m o D)) (kk : r = 0 → pj_J G mX1_firstBreak (d + 1) 4 [some (.ref 2), some (.ref (pi + 98)), some (.int law), some .null, some (.int x), some (.int y), some (.int (u + 1))] [] (sx_mk c1 m o D) 0 0 Q) : pj_J G mX1_firstBreak (d + 1) 4 [some (.ref 2), some (.ref (pi + 98)), some (.int law), some .null, some (.int x), some (.int y), some (.int u)] [] (sx_mk c m o D) 0 0 Q := by
  refine pj_J.go (oX1_firstBreak G) 3 rfl trivial ?_
  refine pj_J.neg (hu) ?_
  refine pj_J.go (oX1_firstBreak G) 5 rfl trivial ?_
  refine pj_J.cal0 kX1_firstBreak_17 (cb) ⟨_, _, _, rfl, rfl⟩ pj_le0 pj_le0 pj_le0 ?_
  refine pj_J.go (oX1_firstBreak G) 1 rfl trivial ?_
  refine pj_J.ite (fun hc20 => ?_) (fun hc20 => ?_)
  · skip
    refine pj_J.go (oX1_firstBreak G) 2 rfl trivial ?_
    exact kk hc20
  · skip
    refine pj_J.go (oX1_firstBreak G) 1 rfl trivial ?_
    exact pj_iret dX1_firstBreak_25 rfl (q hc20)
theorem lz_fbN {G : pj_G} {d : Nat} {c : sx_C} {m : sx_M} {o : Nat → Int64} {D : pj_H} {Q : pj_O → pj_H → Prop} {pi : Nat} (law x y u : Int32) (hu : y < u) (q : Q (.inl (some (.int 9999999))) (sx_mk c m o D)) : pj_J G mX1_firstBreak (d + 1) 4 [some (.ref 2), some (.ref (pi + 98)), some (.int law), some .null, some (.int x), some (.int y), some (.int u)] [] (sx_mk c m o D) 0 0 Q := by
  refine pj_J.go (oX1_firstBreak G) 3 rfl trivial ?_
  refine pj_J.pos (hu) ?_
  refine pj_J.go (oX1_firstBreak G) 1 rfl trivial ?_
  exact pj_iret dX1_firstBreak_35 rfl q
theorem lp_fbN {G : pj_G} {d : Nat} {m : sx_M} {o : Nat → Int64} {D : pj_H} {Q : pj_O → pj_H → Prop} {pi : Nat} (law x y : Int32) (B : sx_C → Int32 → Int32 × sx_C) (I : sx_C → Prop) (hy : y.toInt ≤ 1000000) (hB : ∀ c u, I c → x ≤ u → u ≤ y → pj_Rt G mX1_breaksLaw d [.ref 2, .ref (pi + 98), .int law, .null, .int u] (sx_mk c m o D) 0 0 (some (.int (B c u).1)) (sx_mk (B c u).2 m o D) ∧ I (B c u).2) : ∀ (e : Nat) (u : Int32) (c : sx_C), I c → x ≤ u → u.toInt + e = y.toInt + 1 → Q (.inl (some (.int (fc_lsL B e u c).1))) (sx_mk (fc_lsL B e u c).2 m o D) → pj_J G mX1_firstBreak (d + 1) 4 [some (.ref 2), some (.ref (pi + 98)), some (.int law), some .null, some (.int x), some (.int y), some (.int u)] [] (sx_mk c m o D) 0 0 Q := by
  intro e
  induction e with
  | zero =>
    intro u c hi hx he hq
    exact lz_fbN law x y u (by rw [Int32.lt_iff_toInt_lt]; omega) hq
  | succ e ih =>
    intro u c hi hx he hq
    have hu : ¬ y < u := by rw [Int32.lt_iff_toInt_lt]; omega
    obtain ⟨hb, hi2⟩ := hB c u hi hx (Int32.not_lt.mp hu)
    have h1 : (u + 1).toInt = u.toInt + 1 := by
      rw [Int32.toInt_add]
      have : (1 : Int32).toInt = 1 := rfl
      have := Int32.le_toInt u
      exact Int.bmod_eq_of_le (by omega) (by omega)
    refine lb_fbN law x y u hu _ _ hb (fun h => ?_) (fun h => ?_)
    · unfold fc_lsL at hq
      rw [if_neg h] at hq
      exact hq
    · unfold fc_lsL at hq
      rw [if_pos h] at hq
      exact ih (u + 1) _ hi2 (by rw [Int32.le_iff_toInt_le] at hx ⊢; omega) (by omega) hq
theorem c_X1_firstBreakN {G : pj_G} {d : Nat} {c : sx_C} {m : sx_M} {o : Nat → Int64} {D : pj_H} {pi : Nat} (law x y : Int32) (B : sx_C → Int32 → Int32 × sx_C) (I : sx_C → Prop) (hI : I c) (hxy : x ≤ y) (hy : y.toInt ≤ 1000000) (hB : ∀ c u, I c → x ≤ u → u ≤ y → pj_Rt G mX1_breaksLaw d [.ref 2, .ref (pi + 98), .int law, .null, .int u] (sx_mk c m o D) 0 0 (some (.int (B c u).1)) (sx_mk (B c u).2 m o D) ∧ I (B c u).2) : pj_Rt G mX1_firstBreak (d + 1) [.ref 2, .ref (pi + 98), .int law, .null, .int x, .int y] (sx_mk c m o D) 0 0 (some (.int (fc_firstBreak B c x y).1)) (sx_mk (fc_firstBreak B c x y).2 m o D) := by
  refine pj_Cn.start ?_
  refine pj_J.go (oX1_firstBreak G) 2 rfl trivial ?_
  exact lp_fbN law x y B I hy hB _ x c hI (Int32.le_refl _) (by rw [Int32.le_iff_toInt_le] at hxy; omega) ⟨rfl, rfl⟩
theorem lb_fbR {G : pj_G} {d : Nat} {c : sx_C} {m : sx_M} {o : Nat → Int64} {D : pj_H} {Q : pj_O → pj_H → Prop} {pi po : Nat} (law x y u : Int32) (hu : ¬ y < u) (r : Int32) (c1 : sx_C) (cb : pj_Rt G mX1_breaksLaw d [.ref 2, .ref (pi + 98), .int law, .ref (po + 98), .int u] (sx_mk c m o D) 0 0 (some (.int r)) (sx_mk c1 m o D)) (q : ¬ r = 0 → Q (.inl (some (.int u))) (sx_mk c1 m o D)) (kk : r = 0 → pj_J G mX1_firstBreak (d + 1) 4 [some (.ref 2), some (.ref (pi + 98)), some (.int law), some (.ref (po + 98)), some (.int x), some (.int y), some (.int (u + 1))] [] (sx_mk c1 m o D) 0 0 Q) : pj_J G mX1_firstBreak (d + 1) 4 [some (.ref 2), some (.ref (pi + 98)), some (.int law), some (.ref (po + 98)), some (.int x), some (.int y), some (.int u)] [] (sx_mk c m o D) 0 0 Q := by
  refine pj_J.go (oX1_firstBreak G) 3 rfl trivial ?_
  refine pj_J.neg (hu) ?_
  refine pj_J.go (oX1_firstBreak G) 5 rfl trivial ?_
  refine pj_J.cal0 kX1_firstBreak_17 (cb) ⟨_, _, _, rfl, rfl⟩ pj_le0 pj_le0 pj_le0 ?_
  refine pj_J.go (oX1_firstBreak G) 1 rfl trivial ?_
  refine pj_J.ite (fun hc20 => ?_) (fun hc20 => ?_)
  · skip
    refine pj_J.go (oX1_firstBreak G) 2 rfl trivial ?_
    exact kk hc20
  · skip
    refine pj_J.go (oX1_firstBreak G) 1 rfl trivial ?_
    exact pj_iret dX1_firstBreak_25 rfl (q hc20)
theorem lz_fbR {G : pj_G} {d : Nat} {c : sx_C} {m : sx_M} {o : Nat → Int64} {D : pj_H} {Q : pj_O → pj_H → Prop} {pi po : Nat} (law x y u : Int32) (hu : y < u) (q : Q (.inl (some (.int 9999999))) (sx_mk c m o D)) : pj_J G mX1_firstBreak (d + 1) 4 [some (.ref 2), some (.ref (pi + 98)), some (.int law), some (.ref (po + 98)), some (.int x), some (.int y), some (.int u)] [] (sx_mk c m o D) 0 0 Q := by
  refine pj_J.go (oX1_firstBreak G) 3 rfl trivial ?_
  refine pj_J.pos (hu) ?_
  refine pj_J.go (oX1_firstBreak G) 1 rfl trivial ?_
  exact pj_iret dX1_firstBreak_35 rfl q
theorem lp_fbR {G : pj_G} {d : Nat} {m : sx_M} {o : Nat → Int64} {D : pj_H} {Q : pj_O → pj_H → Prop} {pi po : Nat} (law x y : Int32) (B : sx_C → Int32 → Int32 × sx_C) (I : sx_C → Prop) (hy : y.toInt ≤ 1000000) (hB : ∀ c u, I c → x ≤ u → u ≤ y → pj_Rt G mX1_breaksLaw d [.ref 2, .ref (pi + 98), .int law, .ref (po + 98), .int u] (sx_mk c m o D) 0 0 (some (.int (B c u).1)) (sx_mk (B c u).2 m o D) ∧ I (B c u).2) : ∀ (e : Nat) (u : Int32) (c : sx_C), I c → x ≤ u → u.toInt + e = y.toInt + 1 → Q (.inl (some (.int (fc_lsL B e u c).1))) (sx_mk (fc_lsL B e u c).2 m o D) → pj_J G mX1_firstBreak (d + 1) 4 [some (.ref 2), some (.ref (pi + 98)), some (.int law), some (.ref (po + 98)), some (.int x), some (.int y), some (.int u)] [] (sx_mk c m o D) 0 0 Q := by
  intro e
  induction e with
  | zero =>
    intro u c hi hx he hq
    exact lz_fbR law x y u (by rw [Int32.lt_iff_toInt_lt]; omega) hq
  | succ e ih =>
    intro u c hi hx he hq
    have hu : ¬ y < u := by rw [Int32.lt_iff_toInt_lt]; omega
    obtain ⟨hb, hi2⟩ := hB c u hi hx (Int32.not_lt.mp hu)
    have h1 : (u + 1).toInt = u.toInt + 1 := by
      rw [Int32.toInt_add]
      have : (1 : Int32).toInt = 1 := rfl
      have := Int32.le_toInt u
      exact Int.bmod_eq_of_le (by omega) (by omega)
    refine lb_fbR law x y u hu _ _ hb (fun h => ?_) (fun h => ?_)
    · unfold fc_lsL at hq
      rw [if_neg h] at hq
      exact hq
    · unfold fc_lsL at hq
      rw [if_pos h] at hq
      exact ih (u + 1) _ hi2 (by rw [Int32.le_iff_toInt_le] at hx ⊢; omega) (by omega) hq
theorem c_X1_firstBreakR {G : pj_G} {d : Nat} {c : sx_C} {m : sx_M} {o : Nat → Int64} {D : pj_H} {pi po : Nat} (law x y : Int32) (B : sx_C → Int32 → Int32 × sx_C) (I : sx_C → Prop) (hI : I c) (hxy : x ≤ y) (hy : y.toInt ≤ 1000000) (hB : ∀ c u, I c → x ≤ u → u ≤ y → pj_Rt G mX1_breaksLaw d [.ref 2, .ref (pi + 98), .int law, .ref (po + 98), .int u] (sx_mk c m o D) 0 0 (some (.int (B c u).1)) (sx_mk (B c u).2 m o D) ∧ I (B c u).2) : pj_Rt G mX1_firstBreak (d + 1) [.ref 2, .ref (pi + 98), .int law, .ref (po + 98), .int x, .int y] (sx_mk c m o D) 0 0 (some (.int (fc_firstBreak B c x y).1)) (sx_mk (fc_firstBreak B c x y).2 m o D) := by
  refine pj_Cn.start ?_
  refine pj_J.go (oX1_firstBreak G) 2 rfl trivial ?_
  exact lp_fbR law x y B I hy hB _ x c hI (Int32.le_refl _) (by rw [Int32.le_iff_toInt_le] at hxy; omega) ⟨rfl, rfl⟩
def fc_leastBad (u : sx_M) (p law q x y : Int32) : Prop := fc_isProgram u p = 0 ∨ law < 0 ∨ 6 < law ∨ (law = 2 ∧ fc_isProgram u q = 0) ∨ (¬ law = 2 ∧ ¬ q = -1) ∨ fc_span x y 2000 = 0
theorem c_X1_least0 {G : pj_G} {d : Nat} {c : sx_C} {m : sx_M} {o : Nat → Int64} {D : pj_H} (p law q x y : Int32) (h : fc_leastBad c.1 p law q x y) : pj_Rt G mX1_least (d + 2) [.ref 2, .int p, .int law, .int q, .int x, .int y] (sx_mk c m o D) 0 0 (some (.int (-1))) (sx_mk c m o D) := by
  refine pj_Cn.start ?_
  refine pj_J.go (oX1_least G) 2 rfl trivial ?_
  refine pj_J.cal0 kX1_least_2 (c_X1_isProgram (c := c) p) ⟨_, _, _, rfl, rfl⟩ pj_le0 pj_le0 pj_le0 ?_
  refine pj_J.go (oX1_least G) 1 rfl trivial ?_
  refine pj_J.ite (fun hc5 => ?_) (fun hc5 => ?_)
  · skip
    refine pj_J.go (oX1_least G) 1 rfl trivial ?_
    exact pj_iret dX1_least_40 rfl ⟨rfl, rfl⟩
  · skip
    refine pj_J.go (oX1_least G) 2 rfl trivial ?_
    refine pj_J.ite (fun hc9 => ?_) (fun hc9 => ?_)
    · skip
      refine pj_J.go (oX1_least G) 1 rfl trivial ?_
      exact pj_iret dX1_least_40 rfl ⟨rfl, rfl⟩
    · skip
      refine pj_J.go (oX1_least G) 3 rfl trivial ?_
      refine pj_J.ite (fun hc15 => ?_) (fun hc15 => ?_)
      · skip
        refine pj_J.go (oX1_least G) 1 rfl trivial ?_
        exact pj_iret dX1_least_40 rfl ⟨rfl, rfl⟩
      · skip
        refine pj_J.go (oX1_least G) 3 rfl trivial ?_
        refine pj_J.ite (fun hc20 => ?_) (fun hc20 => ?_)
        · skip
          refine pj_J.go (oX1_least G) 2 rfl trivial ?_
          refine pj_J.cal0 kX1_least_25 (c_X1_isProgram (c := c) q) ⟨_, _, _, rfl, rfl⟩ pj_le0 pj_le0 pj_le0 ?_
          refine pj_J.go (oX1_least G) 1 rfl trivial ?_
          refine pj_J.ite (fun hc28 => ?_) (fun hc28 => ?_)
          · skip
            refine pj_J.go (oX1_least G) 2 rfl trivial ?_
            exact pj_iret dX1_least_40 rfl ⟨rfl, rfl⟩
          · skip
            refine pj_J.go (oX1_least G) 3 rfl trivial ?_
            refine pj_J.cal0 kX1_least_48 (c_X1_span x y (2000 : Int32)) trivial pj_le0 pj_le0 pj_le0 ?_
            refine pj_J.go (oX1_least G) 1 rfl trivial ?_
            refine pj_J.ite (fun hc51 => ?_) (fun hc51 => ?_)
            · skip
              refine pj_J.go (oX1_least G) 1 rfl trivial ?_
              exact pj_iret dX1_least_55 rfl ⟨rfl, rfl⟩
            · skip
              exfalso
              rcases h with h | h | h | h | h | h
              · exact hc5 h
              · exact hc9 h
              · exact hc15 h
              · exact hc28 h.2
              · exact h.1 hc20
              · exact hc51 h
        · skip
          refine pj_J.go (oX1_least G) 3 rfl trivial ?_
          refine pj_J.ite (fun hc36 => ?_) (fun hc36 => ?_)
          · skip
            refine pj_J.go (oX1_least G) 3 rfl trivial ?_
            refine pj_J.cal0 kX1_least_48 (c_X1_span x y (2000 : Int32)) trivial pj_le0 pj_le0 pj_le0 ?_
            refine pj_J.go (oX1_least G) 1 rfl trivial ?_
            refine pj_J.ite (fun hc51 => ?_) (fun hc51 => ?_)
            · skip
              refine pj_J.go (oX1_least G) 1 rfl trivial ?_
              exact pj_iret dX1_least_55 rfl ⟨rfl, rfl⟩
            · skip
              exfalso
              rcases h with h | h | h | h | h | h
              · exact hc5 h
              · exact hc9 h
              · exact hc15 h
              · exact hc20 h.1
              · exact h.2 hc36
              · exact hc51 h
          · skip
            refine pj_J.go (oX1_least G) 1 rfl trivial ?_
            exact pj_iret dX1_least_40 rfl ⟨rfl, rfl⟩
theorem c_X1_leastN {G : pj_G} {d : Nat} {c : sx_C} {m : sx_M} {o : Nat → Int64} {D : pj_H} (p law q x y : Int32) (h : ¬ fc_isProgram c.1 p = 0) (h0 : ¬ law < 0) (h6 : ¬ 6 < law) (hs : ¬ fc_span x y 2000 = 0) (hp4 : vp_in p 4) {pi : Nat} (hpi : sx_P c p.toNatClampNeg = some (pi + 98)) (hl2 : ¬ law = 2) (hq1 : q = -1) (r : Int32) (c1 : sx_C) (cl : pj_Rt G mX1_firstBreak (d + 1) [.ref 2, .ref (pi + 98), .int law, .null, .int x, .int y] (sx_mk c m o D) 0 0 (some (.int r)) (sx_mk c1 m o D)) : pj_Rt G mX1_least (d + 2) [.ref 2, .int p, .int law, .int q, .int x, .int y] (sx_mk c m o D) 0 0 (some (.int r)) (sx_mk c1 m o D) := by
  refine pj_Cn.start ?_
  refine pj_J.go (oX1_least G) 2 rfl trivial ?_
  refine pj_J.cal0 kX1_least_2 (c_X1_isProgram (c := c) p) ⟨_, _, _, rfl, rfl⟩ pj_le0 pj_le0 pj_le0 ?_
  refine pj_J.go (oX1_least G) 1 rfl trivial ?_
  refine pj_J.neg (h) ?_
  refine pj_J.go (oX1_least G) 2 rfl trivial ?_
  refine pj_J.neg (h0) ?_
  refine pj_J.go (oX1_least G) 3 rfl trivial ?_
  refine pj_J.neg (h6) ?_
  refine pj_J.go (oX1_least G) 3 rfl trivial ?_
  refine pj_J.neg (hl2) ?_
  refine pj_J.go (oX1_least G) 3 rfl trivial ?_
  refine pj_J.pos (hq1) ?_
  refine pj_J.go (oX1_least G) 3 rfl trivial ?_
  refine pj_J.cal0 kX1_least_48 (c_X1_span x y (2000 : Int32)) trivial pj_le0 pj_le0 pj_le0 ?_
  refine pj_J.go (oX1_least G) 1 rfl trivial ?_
  refine pj_J.neg (hs) ?_
  refine pj_J.go (oX1_least G) 5 rfl ⟨by exact hp4, trivial⟩ ?_
  refine pj_J.seq (show va_rf (sx_P c p.toNatClampNeg) :: _ = .ref (pi + 98) :: _ by rw [hpi]; rfl) ?_
  refine pj_J.go (oX1_least G) 4 rfl trivial ?_
  refine pj_J.neg (hl2) ?_
  refine pj_J.go (oX1_least G) 3 rfl trivial ?_
  refine pj_J.cal0 kX1_least_83 (cl) ⟨_, _, _, rfl, rfl⟩ pj_le0 pj_le0 pj_le0 ?_
  exact pj_iret dX1_least_86 rfl ⟨rfl, rfl⟩
theorem c_X1_leastR {G : pj_G} {d : Nat} {c : sx_C} {m : sx_M} {o : Nat → Int64} {D : pj_H} (p law q x y : Int32) (h : ¬ fc_isProgram c.1 p = 0) (h0 : ¬ law < 0) (h6 : ¬ 6 < law) (hs : ¬ fc_span x y 2000 = 0) (hp4 : vp_in p 4) {pi : Nat} (hpi : sx_P c p.toNatClampNeg = some (pi + 98)) (hl2 : law = 2) (hq1 : ¬ fc_isProgram c.1 q = 0) (hq4 : vp_in q 4) {po : Nat} (hqi : sx_P c q.toNatClampNeg = some (po + 98)) (r : Int32) (c1 : sx_C) (cl : pj_Rt G mX1_firstBreak (d + 1) [.ref 2, .ref (pi + 98), .int law, .ref (po + 98), .int x, .int y] (sx_mk c m o D) 0 0 (some (.int r)) (sx_mk c1 m o D)) : pj_Rt G mX1_least (d + 2) [.ref 2, .int p, .int law, .int q, .int x, .int y] (sx_mk c m o D) 0 0 (some (.int r)) (sx_mk c1 m o D) := by
  refine pj_Cn.start ?_
  refine pj_J.go (oX1_least G) 2 rfl trivial ?_
  refine pj_J.cal0 kX1_least_2 (c_X1_isProgram (c := c) p) ⟨_, _, _, rfl, rfl⟩ pj_le0 pj_le0 pj_le0 ?_
  refine pj_J.go (oX1_least G) 1 rfl trivial ?_
  refine pj_J.neg (h) ?_
  refine pj_J.go (oX1_least G) 2 rfl trivial ?_
  refine pj_J.neg (h0) ?_
  refine pj_J.go (oX1_least G) 3 rfl trivial ?_
  refine pj_J.neg (h6) ?_
  refine pj_J.go (oX1_least G) 3 rfl trivial ?_
  refine pj_J.pos (hl2) ?_
  refine pj_J.go (oX1_least G) 2 rfl trivial ?_
  refine pj_J.cal0 kX1_least_25 (c_X1_isProgram (c := c) q) ⟨_, _, _, rfl, rfl⟩ pj_le0 pj_le0 pj_le0 ?_
  refine pj_J.go (oX1_least G) 1 rfl trivial ?_
  refine pj_J.neg (hq1) ?_
  refine pj_J.go (oX1_least G) 3 rfl trivial ?_
  refine pj_J.cal0 kX1_least_48 (c_X1_span x y (2000 : Int32)) trivial pj_le0 pj_le0 pj_le0 ?_
  refine pj_J.go (oX1_least G) 1 rfl trivial ?_
  refine pj_J.neg (hs) ?_
  refine pj_J.go (oX1_least G) 5 rfl ⟨by exact hp4, trivial⟩ ?_
  refine pj_J.seq (show va_rf (sx_P c p.toNatClampNeg) :: _ = .ref (pi + 98) :: _ by rw [hpi]; rfl) ?_
  refine pj_J.go (oX1_least G) 4 rfl trivial ?_
  refine pj_J.pos (hl2) ?_
  refine pj_J.go (oX1_least G) 4 rfl ⟨by exact hq4, trivial⟩ ?_
  refine pj_J.seq (show va_rf (sx_P c q.toNatClampNeg) :: _ = .ref (po + 98) :: _ by rw [hqi]; rfl) ?_
  refine pj_J.go (oX1_least G) 3 rfl trivial ?_
  refine pj_J.cal0 kX1_least_83 (cl) ⟨_, _, _, rfl, rfl⟩ pj_le0 pj_le0 pj_le0 ?_
  exact pj_iret dX1_least_86 rfl ⟨rfl, rfl⟩
