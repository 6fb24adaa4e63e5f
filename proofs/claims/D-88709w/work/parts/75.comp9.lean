/-! PennyJudge: act, same (by tools/gen_s2.py) -/
set_option maxRecDepth 100000
theorem sx_set_ne {D : pj_H} {i j : Nat} {x y : pj_E} (h : i ≠ j) (hj : D[j]? = some y) : (D.set i x)[j]? = some y := by
  rw [List.getElem?_set_ne h]
  exact hj
def fc_actBad (u : sx_M) (p kd s t v : Int32) : Prop := fc_isProgram u p = 0 ∨ kd < 0 ∨ 12 < kd ∨ s < 0 ∨ 7 < s ∨ fc_fits kd t v = 0
theorem c_X1_act0 {G : pj_G} {d : Nat} {c : sx_C} {m : sx_M} {o : Nat → Int64} {D : pj_H} {kc ks : Nat} (p kd s t v : Int32) (h : fc_actBad c.1 p kd s t v) : pj_Rt G mX1_act (d + 5) [.ref 2, .int p, .int kd, .int s, .int t, .int v] (sx_mk c m o D) kc ks (some (.int (-1))) (sx_mk c m o D) := by
  refine pj_Cn.start ?_
  refine pj_J.go (oX1_act G) 2 rfl trivial ?_
  refine pj_J.cal0 kX1_act_2 (c_X1_isProgram (c := c) p) ⟨_, _, _, rfl, rfl⟩ pj_le0 pj_le0 pj_le0 ?_
  refine pj_J.go (oX1_act G) 1 rfl trivial ?_
  refine pj_J.ite (fun hc5 => ?_) (fun hc5 => ?_)
  · skip
    refine pj_J.go (oX1_act G) 1 rfl trivial ?_
    exact pj_iret dX1_act_40 rfl ⟨rfl, rfl⟩
  · skip
    refine pj_J.go (oX1_act G) 2 rfl trivial ?_
    refine pj_J.ite (fun hc9 => ?_) (fun hc9 => ?_)
    · skip
      refine pj_J.go (oX1_act G) 1 rfl trivial ?_
      exact pj_iret dX1_act_40 rfl ⟨rfl, rfl⟩
    · skip
      refine pj_J.go (oX1_act G) 3 rfl trivial ?_
      refine pj_J.ite (fun hc15 => ?_) (fun hc15 => ?_)
      · skip
        refine pj_J.go (oX1_act G) 1 rfl trivial ?_
        exact pj_iret dX1_act_40 rfl ⟨rfl, rfl⟩
      · skip
        refine pj_J.go (oX1_act G) 2 rfl trivial ?_
        refine pj_J.ite (fun hc19 => ?_) (fun hc19 => ?_)
        · skip
          refine pj_J.go (oX1_act G) 1 rfl trivial ?_
          exact pj_iret dX1_act_40 rfl ⟨rfl, rfl⟩
        · skip
          refine pj_J.go (oX1_act G) 3 rfl trivial ?_
          refine pj_J.ite (fun hc25 => ?_) (fun hc25 => ?_)
          · skip
            refine pj_J.go (oX1_act G) 1 rfl trivial ?_
            exact pj_iret dX1_act_40 rfl ⟨rfl, rfl⟩
          · skip
            refine pj_J.go (oX1_act G) 3 rfl trivial ?_
            refine pj_J.cal0 kX1_act_33 (c_X1_fits kd t v) trivial pj_le0 pj_le0 pj_le0 ?_
            refine pj_J.go (oX1_act G) 1 rfl trivial ?_
            refine pj_J.ite (fun hc36 => ?_) (fun hc36 => ?_)
            · skip
              refine pj_J.go (oX1_act G) 1 rfl trivial ?_
              exact pj_iret dX1_act_40 rfl ⟨rfl, rfl⟩
            · skip
              exfalso
              rcases h with h | h | h | h | h | h
              · exact hc5 h
              · exact hc9 h
              · exact hc15 h
              · exact hc19 h
              · exact hc25 h
              · exact hc36 h
theorem c_X1_act1 {G : pj_G} {d : Nat} {c : sx_C} {m : sx_M} {o : Nat → Int64} {D : pj_H} {kc ks : Nat} (p kd s t v : Int32) (hg : ¬ fc_isProgram c.1 p = 0 ∧ ¬ kd < 0 ∧ ¬ 12 < kd ∧ ¬ s < 0 ∧ ¬ 7 < s ∧ ¬ fc_fits kd t v = 0) (hp4 : vp_in p 4) {pi : Nat} (hpi : sx_P c p.toNatClampNeg = some (pi + 98)) {ai n : Nat} {cn cd : Int64} (hn : n ≤ 20) (hp : D[pi]? = some (.inr (4, [.ref (ai + 98), .int (nI n), .long cn, .long cd]))) (h20 : n = 20) : pj_Rt G mX1_act (d + 5) [.ref 2, .int p, .int kd, .int s, .int t, .int v] (sx_mk c m o D) kc ks (some (.int (-2))) (sx_mk c m o D) := by
  refine pj_Cn.start ?_
  refine pj_J.go (oX1_act G) 2 rfl trivial ?_
  refine pj_J.cal0 kX1_act_2 (c_X1_isProgram (c := c) p) ⟨_, _, _, rfl, rfl⟩ pj_le0 pj_le0 pj_le0 ?_
  refine pj_J.go (oX1_act G) 1 rfl trivial ?_
  refine pj_J.neg (hg.1) ?_
  refine pj_J.go (oX1_act G) 2 rfl trivial ?_
  refine pj_J.neg (hg.2.1) ?_
  refine pj_J.go (oX1_act G) 3 rfl trivial ?_
  refine pj_J.neg (hg.2.2.1) ?_
  refine pj_J.go (oX1_act G) 2 rfl trivial ?_
  refine pj_J.neg (hg.2.2.2.1) ?_
  refine pj_J.go (oX1_act G) 3 rfl trivial ?_
  refine pj_J.neg (hg.2.2.2.2.1) ?_
  refine pj_J.go (oX1_act G) 3 rfl trivial ?_
  refine pj_J.cal0 kX1_act_33 (c_X1_fits kd t v) trivial pj_le0 pj_le0 pj_le0 ?_
  refine pj_J.go (oX1_act G) 1 rfl trivial ?_
  refine pj_J.neg (hg.2.2.2.2.2) ?_
  refine pj_J.go (oX1_act G) 4 rfl ⟨by exact hp4, trivial⟩ ?_
  refine pj_J.seq (show va_rf (sx_P c p.toNatClampNeg) :: _ = .ref (pi + 98) :: _ by rw [hpi]; rfl) ?_
  refine pj_J.go (oX1_act G) 2 rfl trivial ?_
  refine pj_J.go1 (pc := 51) (oX1_act G) rfl (po_getD (lo := 4) (hi := 4) (k := 1) (n := 54) (by exact hp) (by decide) (by rfl)) trivial ?_
  refine pj_J.go (oX1_act G) 2 rfl trivial ?_
  refine pj_J.pos (by rw [h20]; rfl) ?_
  refine pj_J.go (oX1_act G) 1 rfl trivial ?_
  exact pj_iret dX1_act_61 rfl ⟨rfl, rfl⟩
/-- behind act(): the moving cells -/
def fp_actX (a : Nat) (s t v : Int32) : pj_E := .inr (5 + a, [.int (nI a), .int s, .int t, .int v])
def fp_row (f : Nat → Option Nat) : pj_E := .inl (7, (20, .inr (.inr (.inr (.inr f)))))
def fp_actD (D : pj_H) (pi ai n a : Nat) (f : Nat → Option Nat) (cn cd : Int64) (s t v : Int32) : pj_H := ((D ++ [fp_actX a s t v]).set ai (fp_row (va_up f (nI n).toNatClampNeg (some (D.length + 98))))).set pi (.inr (4, [.ref (ai + 98), .int (nI n + 1), .long cn, .long cd]))
theorem c_X1_act2 {G : pj_G} {d : Nat} {c : sx_C} {m : sx_M} {o : Nat → Int64} {D : pj_H} (p : Int32) (a : Nat) (s t v : Int32) (ha13 : a < 13) (hg : ¬ fc_isProgram c.1 p = 0 ∧ ¬ (nI a) < 0 ∧ ¬ 12 < (nI a) ∧ ¬ s < 0 ∧ ¬ 7 < s ∧ ¬ fc_fits (nI a) t v = 0) (hp4 : vp_in p 4) {pi : Nat} (hpi : sx_P c p.toNatClampNeg = some (pi + 98)) {ai n : Nat} {cn cd : Int64} (hn : n ≤ 20) (hp : D[pi]? = some (.inr (4, [.ref (ai + 98), .int (nI n), .long cn, .long cd]))) {f : Nat → Option Nat} (hf : D[ai]? = some (.inl (7, (20, .inr (.inr (.inr (.inr f))))))) (h20 : n < 20) : pj_Rt G mX1_act (d + 5) [.ref 2, .int p, .int (nI a), .int s, .int t, .int v] (sx_mk c m o D) 1 4 (some (.int (nI n + 1))) (sx_mk c m o (fp_actD D pi ai n a f cn cd s t v)) := by
  have hne : ai ≠ pi := fun e => by subst e; rw [hf] at hp; cases hp
  refine pj_Cn.start ?_
  refine pj_J.go (oX1_act G) 2 rfl trivial ?_
  refine pj_J.cal0 kX1_act_2 (c_X1_isProgram (c := c) p) ⟨_, _, _, rfl, rfl⟩ pj_le0 pj_le0 pj_le0 ?_
  refine pj_J.go (oX1_act G) 1 rfl trivial ?_
  refine pj_J.neg (hg.1) ?_
  refine pj_J.go (oX1_act G) 2 rfl trivial ?_
  refine pj_J.neg (hg.2.1) ?_
  refine pj_J.go (oX1_act G) 3 rfl trivial ?_
  refine pj_J.neg (hg.2.2.1) ?_
  refine pj_J.go (oX1_act G) 2 rfl trivial ?_
  refine pj_J.neg (hg.2.2.2.1) ?_
  refine pj_J.go (oX1_act G) 3 rfl trivial ?_
  refine pj_J.neg (hg.2.2.2.2.1) ?_
  refine pj_J.go (oX1_act G) 3 rfl trivial ?_
  refine pj_J.cal0 kX1_act_33 (c_X1_fits (nI a) t v) trivial pj_le0 pj_le0 pj_le0 ?_
  refine pj_J.go (oX1_act G) 1 rfl trivial ?_
  refine pj_J.neg (hg.2.2.2.2.2) ?_
  refine pj_J.go (oX1_act G) 4 rfl ⟨by exact hp4, trivial⟩ ?_
  refine pj_J.seq (show va_rf (sx_P c p.toNatClampNeg) :: _ = .ref (pi + 98) :: _ by rw [hpi]; rfl) ?_
  refine pj_J.go (oX1_act G) 2 rfl trivial ?_
  refine pj_J.go1 (pc := 51) (oX1_act G) rfl (po_getD (lo := 4) (hi := 4) (k := 1) (n := 54) (by exact hp) (by decide) (by rfl)) trivial ?_
  refine pj_J.go (oX1_act G) 2 rfl trivial ?_
  refine pj_J.neg (fun q => by have := congrArg Int32.toInt q; rw [nI_toInt (by omega)] at this; have h2 : (20 : Int32).toInt = 20 := rfl; omega) ?_
  refine pj_J.go (oX1_act G) 1 rfl trivial ?_
  refine pj_J.go1 (pc := 64) (oX1_act G) rfl (po_getD (lo := 4) (hi := 4) (k := 0) (n := 67) (by exact hp) (by decide) (by rfl)) trivial ?_
  refine pj_J.go (oX1_act G) 1 rfl trivial ?_
  refine pj_J.go1 (pc := 69) (oX1_act G) rfl (po_getD (lo := 4) (hi := 4) (k := 1) (n := 72) (by exact hp) (by decide) (by rfl)) trivial ?_
  refine pj_J.go (oX1_act G) 4 rfl trivial ?_
  refine pj_J.call (k2 := 0) (s2 := 0) kX1_act_78 (as := [.int (nI a), .int s, .int t, .int v]) (rest := [.int (nI n), .ref (ai + 98)]) rfl rfl (Nat.le_of_ble_eq_true rfl) trivial (Nat.le_of_ble_eq_true rfl) (c_X1_made ha13 s t v) (fun x y q => by cases q.1) (Nat.le_refl _) (Nat.le_refl _) (fun w h' q => ?_)
  obtain ⟨q1, q2⟩ := q
  cases q1
  subst q2
  refine pj_J.goS (pc := 81) (ps_aast dX1_act_81) (po_aastD (a := ai + 98) (v := D.length + 98) (by exact sx_app_at _ hf) (by exact sx_app_new D _)) ⟨vp_in_lit h20, Or.inr (Or.inr ⟨rfl, by omega, by omega⟩)⟩ ?_
  refine pj_J.heq (h' := sx_mk c m o ((D ++ [fp_actX a s t v]).set ai (fp_row (va_up f (nI n).toNatClampNeg (some (D.length + 98)))))) rfl ?_
  refine pj_J.go (oX1_act G) 2 rfl trivial ?_
  refine pj_J.go1 (pc := 85) (oX1_act G) rfl (po_getD (lo := 4) (hi := 4) (k := 1) (n := 88) (by exact (sx_set_ne hne (sx_app_at _ hp))) (by decide) (by rfl)) trivial ?_
  refine pj_J.go (oX1_act G) 2 rfl trivial ?_
  refine pj_J.go1 (pc := 90) (oX1_act G) rfl (po_putD (cnd := none) (lo := 4) (hi := 4) (k := 1) (ty := .int) (n := 93) (by exact (sx_set_ne hne (sx_app_at _ hp))) (by decide) (by exact Nat.le_of_ble_eq_true rfl) (by rfl)) trivial ?_
  refine pj_J.go (oX1_act G) 1 rfl trivial ?_
  refine pj_J.go1 (pc := 95) (oX1_act G) rfl (po_getD (lo := 4) (hi := 4) (k := 1) (n := 98) (by exact (sx_set_at (sx_set_ne hne (sx_app_at _ hp)))) (by decide) (by rfl)) trivial ?_
  exact pj_iret dX1_act_98 rfl ⟨rfl, rfl⟩
theorem c_X1_same0 {G : pj_G} {d : Nat} {c : sx_C} {m : sx_M} {o : Nat → Int64} {D : pj_H} (p q : Int32) (h : fc_isProgram c.1 p = 0 ∨ fc_isProgram c.1 q = 0) : pj_Rt G mX1_same (d + 1) [.ref 2, .int p, .int q] (sx_mk c m o D) 0 0 (some (.int (-1))) (sx_mk c m o D) := by
  refine pj_Cn.start ?_
  refine pj_J.go (oX1_same G) 2 rfl trivial ?_
  refine pj_J.cal0 kX1_same_2 (c_X1_isProgram (c := c) p) ⟨_, _, _, rfl, rfl⟩ pj_le0 pj_le0 pj_le0 ?_
  refine pj_J.go (oX1_same G) 1 rfl trivial ?_
  refine pj_J.ite (fun hc5 => ?_) (fun hc5 => ?_)
  · skip
    refine pj_J.go (oX1_same G) 1 rfl trivial ?_
    exact pj_iret dX1_same_17 rfl ⟨rfl, rfl⟩
  · skip
    refine pj_J.go (oX1_same G) 2 rfl trivial ?_
    refine pj_J.cal0 kX1_same_10 (c_X1_isProgram (c := c) q) ⟨_, _, _, rfl, rfl⟩ pj_le0 pj_le0 pj_le0 ?_
    refine pj_J.go (oX1_same G) 1 rfl trivial ?_
    refine pj_J.ite (fun hc13 => ?_) (fun hc13 => ?_)
    · skip
      refine pj_J.go (oX1_same G) 1 rfl trivial ?_
      exact pj_iret dX1_same_17 rfl ⟨rfl, rfl⟩
    · skip
      exfalso
      rcases h with h | h
      · exact hc5 h
      · exact hc13 h
def fc_smB (a b : Nat) (s s2 t t2 v v2 : Int32) : Int32 := if nI a = nI b then (if s = s2 then (if t = t2 then (if v = v2 then 1 else 0) else 0) else 0) else 0
theorem lb_X1_same {G : pj_G} {d : Nat} {c : sx_C} {m : sx_M} {o : Nat → Int64} {D : pj_H} {Q : pj_O → pj_H → Prop} {p q : Int32} {pi ai n : Nat} {cn cd : Int64} (hn : n ≤ 20) (hp : D[pi]? = some (.inr (4, [.ref (ai + 98), .int (nI n), .long cn, .long cd]))) {po bi n2 : Nat} {cn2 cd2 : Int64} (hq : D[po]? = some (.inr (4, [.ref (bi + 98), .int (nI n2), .long cn2, .long cd2]))) {f g : Nat → Option Nat} (hf : D[ai]? = some (.inl (7, (20, .inr (.inr (.inr (.inr f))))))) (hg : D[bi]? = some (.inl (7, (20, .inr (.inr (.inr (.inr g))))))) {k x y a b : Nat} {s t v s2 t2 v2 : Int32} (hk : k < n) (hx : f k = some (x + 98)) (hy : g k = some (y + 98)) (ha13 : a < 13) (hb13 : b < 13) (ha : D[x]? = some (.inr (5 + a, [.int (nI a), .int s, .int t, .int v]))) (hb : D[y]? = some (.inr (5 + b, [.int (nI b), .int s2, .int t2, .int v2]))) (q1 : fc_smB a b s s2 t t2 v v2 = 0 → Q (.inl (some (.int 0))) (sx_mk c m o D)) (kk : fc_smB a b s s2 t t2 v v2 = 1 → pj_J G mX1_same (d + 1) 50 [some (.ref 2), some (.int p), some (.int q), some (.ref (pi + 98)), some (.ref (po + 98)), some (.int (nI k + 1)), none, none] [] (sx_mk c m o D) 0 0 Q) : pj_J G mX1_same (d + 1) 50 [some (.ref 2), some (.int p), some (.int q), some (.ref (pi + 98)), some (.ref (po + 98)), some (.int (nI k)), none, none] [] (sx_mk c m o D) 0 0 Q := by
  refine pj_J.go (oX1_same G) 2 rfl trivial ?_
  refine pj_J.go1 (pc := 53) (oX1_same G) rfl (po_getD (lo := 4) (hi := 4) (k := 1) (n := 56) (by exact hp) (by decide) (by rfl)) trivial ?_
  refine pj_J.go (oX1_same G) 1 rfl trivial ?_
  refine pj_J.neg (nI_lt_lit hk (by omega)) ?_
  refine pj_J.go (oX1_same G) 1 rfl trivial ?_
  refine pj_J.go1 (pc := 60) (oX1_same G) rfl (po_getD (lo := 4) (hi := 4) (k := 0) (n := 63) (by exact hp) (by decide) (by rfl)) trivial ?_
  refine pj_J.go (oX1_same G) 1 rfl trivial ?_
  refine pj_J.go1 (pc := 65) (oX1_same G) rfl (po_aaldD (n := 66) (by exact hf) (by decide)) (by exact vp_in_lit (by omega)) ?_
  refine pj_J.seq (show va_rf (f (nI k).toNatClampNeg) :: _ = .ref (x + 98) :: _ by rw [nI_clamp (by omega), hx]; rfl) ?_
  refine pj_J.go (oX1_same G) 2 rfl trivial ?_
  refine pj_J.go1 (pc := 70) (oX1_same G) rfl (po_getD (lo := 4) (hi := 4) (k := 0) (n := 73) (by exact hq) (by decide) (by rfl)) trivial ?_
  refine pj_J.go (oX1_same G) 1 rfl trivial ?_
  refine pj_J.go1 (pc := 75) (oX1_same G) rfl (po_aaldD (n := 76) (by exact hg) (by decide)) (by exact vp_in_lit (by omega)) ?_
  refine pj_J.seq (show va_rf (g (nI k).toNatClampNeg) :: _ = .ref (y + 98) :: _ by rw [nI_clamp (by omega), hy]; rfl) ?_
  refine pj_J.go (oX1_same G) 2 rfl trivial ?_
  refine pj_J.go1 (pc := 80) (oX1_same G) rfl (po_getD (lo := 5) (hi := 17) (k := 0) (n := 83) (by exact ha) (by omega) (by rfl)) trivial ?_
  refine pj_J.go (oX1_same G) 1 rfl trivial ?_
  refine pj_J.go1 (pc := 85) (oX1_same G) rfl (po_getD (lo := 5) (hi := 17) (k := 0) (n := 88) (by exact hb) (by omega) (by rfl)) trivial ?_
  refine pj_J.go (oX1_same G) 1 rfl trivial ?_
  refine pj_J.ite (fun hc88 => ?_) (fun hc88 => ?_)
  · skip
    refine pj_J.go (oX1_same G) 1 rfl trivial ?_
    refine pj_J.go1 (pc := 93) (oX1_same G) rfl (po_getD (lo := 5) (hi := 17) (k := 1) (n := 96) (by exact ha) (by omega) (by rfl)) trivial ?_
    refine pj_J.go (oX1_same G) 1 rfl trivial ?_
    refine pj_J.go1 (pc := 98) (oX1_same G) rfl (po_getD (lo := 5) (hi := 17) (k := 1) (n := 101) (by exact hb) (by omega) (by rfl)) trivial ?_
    refine pj_J.go (oX1_same G) 1 rfl trivial ?_
    refine pj_J.ite (fun hc101 => ?_) (fun hc101 => ?_)
    · skip
      refine pj_J.go (oX1_same G) 1 rfl trivial ?_
      refine pj_J.go1 (pc := 106) (oX1_same G) rfl (po_getD (lo := 5) (hi := 17) (k := 2) (n := 109) (by exact ha) (by omega) (by rfl)) trivial ?_
      refine pj_J.go (oX1_same G) 1 rfl trivial ?_
      refine pj_J.go1 (pc := 111) (oX1_same G) rfl (po_getD (lo := 5) (hi := 17) (k := 2) (n := 114) (by exact hb) (by omega) (by rfl)) trivial ?_
      refine pj_J.go (oX1_same G) 1 rfl trivial ?_
      refine pj_J.ite (fun hc114 => ?_) (fun hc114 => ?_)
      · skip
        refine pj_J.go (oX1_same G) 1 rfl trivial ?_
        refine pj_J.go1 (pc := 119) (oX1_same G) rfl (po_getD (lo := 5) (hi := 17) (k := 3) (n := 122) (by exact ha) (by omega) (by rfl)) trivial ?_
        refine pj_J.go (oX1_same G) 1 rfl trivial ?_
        refine pj_J.go1 (pc := 124) (oX1_same G) rfl (po_getD (lo := 5) (hi := 17) (k := 3) (n := 127) (by exact hb) (by omega) (by rfl)) trivial ?_
        refine pj_J.go (oX1_same G) 1 rfl trivial ?_
        refine pj_J.ite (fun hc127 => ?_) (fun hc127 => ?_)
        · skip
          refine pj_J.go (oX1_same G) 2 rfl trivial ?_
          have e : fc_smB a b s s2 t t2 v v2 = 1 := by unfold fc_smB; rw [if_pos (show (nI a) = (nI b) from hc88), if_pos (show s = s2 from hc101), if_pos (show t = t2 from hc114), if_pos (show v = v2 from hc127)]
          exact pj_J.drp (kk e) ⟨rfl, rfl, rfl, rfl, rfl, rfl, trivial⟩
        · skip
          refine pj_J.go (oX1_same G) 1 rfl trivial ?_
          have e : fc_smB a b s s2 t t2 v v2 = 0 := by unfold fc_smB; rw [if_pos (show (nI a) = (nI b) from hc88), if_pos (show s = s2 from hc101), if_pos (show t = t2 from hc114), if_neg (show ¬ (v = v2) from hc127)]
          exact pj_iret dX1_same_131 rfl (q1 e)
      · skip
        refine pj_J.go (oX1_same G) 1 rfl trivial ?_
        have e : fc_smB a b s s2 t t2 v v2 = 0 := by unfold fc_smB; rw [if_pos (show (nI a) = (nI b) from hc88), if_pos (show s = s2 from hc101), if_neg (show ¬ (t = t2) from hc114)]
        exact pj_iret dX1_same_131 rfl (q1 e)
    · skip
      refine pj_J.go (oX1_same G) 1 rfl trivial ?_
      have e : fc_smB a b s s2 t t2 v v2 = 0 := by unfold fc_smB; rw [if_pos (show (nI a) = (nI b) from hc88), if_neg (show ¬ (s = s2) from hc101)]
      exact pj_iret dX1_same_131 rfl (q1 e)
  · skip
    refine pj_J.go (oX1_same G) 1 rfl trivial ?_
    have e : fc_smB a b s s2 t t2 v v2 = 0 := by unfold fc_smB; rw [if_neg (show ¬ ((nI a) = (nI b)) from hc88)]
    exact pj_iret dX1_same_131 rfl (q1 e)
theorem lz_X1_same {G : pj_G} {d : Nat} {c : sx_C} {m : sx_M} {o : Nat → Int64} {D : pj_H} {Q : pj_O → pj_H → Prop} {p q : Int32} {po : Nat} {pi ai n : Nat} {cn cd : Int64} (hn : n ≤ 20) (hp : D[pi]? = some (.inr (4, [.ref (ai + 98), .int (nI n), .long cn, .long cd]))) (q1 : Q (.inl (some (.int 1))) (sx_mk c m o D)) : pj_J G mX1_same (d + 1) 50 [some (.ref 2), some (.int p), some (.int q), some (.ref (pi + 98)), some (.ref (po + 98)), some (.int (nI n)), none, none] [] (sx_mk c m o D) 0 0 Q := by
  refine pj_J.go (oX1_same G) 2 rfl trivial ?_
  refine pj_J.go1 (pc := 53) (oX1_same G) rfl (po_getD (lo := 4) (hi := 4) (k := 1) (n := 56) (by exact hp) (by decide) (by rfl)) trivial ?_
  refine pj_J.go (oX1_same G) 1 rfl trivial ?_
  refine pj_J.pos (nI_ge_lit (Nat.le_refl _) (by omega)) ?_
  refine pj_J.go (oX1_same G) 1 rfl trivial ?_
  exact pj_iret dX1_same_139 rfl q1
def fc_smK (A B : fp_A) (k : Nat) : Int32 := fc_smB (A k).1 (B k).1 (A k).2.1 (B k).2.1 (A k).2.2.1 (B k).2.2.1 (A k).2.2.2 (B k).2.2.2
theorem fc_smB01 (a b : Nat) (s s2 t t2 v v2 : Int32) : fc_smB a b s s2 t t2 v v2 = 0 ∨ fc_smB a b s s2 t t2 v v2 = 1 := by
  unfold fc_smB
  repeat' split
  all_goals first | exact Or.inl rfl | exact Or.inr rfl
def fc_smL (A B : fp_A) : Nat → Nat → Int32
  | 0, _ => 1
  | e + 1, k => if fc_smK A B k = 0 then 0 else fc_smL A B e (k + 1)
theorem lp_X1_same {G : pj_G} {d : Nat} {c : sx_C} {m : sx_M} {o : Nat → Int64} {D : pj_H} {Q : pj_O → pj_H → Prop} {p q : Int32} {pi n : Nat} {A B : fp_A} {cn cd : Int64} (hP : fp_prog D pi n A cn cd) {po : Nat} {cn2 cd2 : Int64} (hB : fp_prog D po n B cn2 cd2) : ∀ e k, k + e = n → Q (.inl (some (.int (fc_smL A B e k)))) (sx_mk c m o D) → pj_J G mX1_same (d + 1) 50 [some (.ref 2), some (.int p), some (.int q), some (.ref (pi + 98)), some (.ref (po + 98)), some (.int (nI k)), none, none] [] (sx_mk c m o D) 0 0 Q := by
  obtain ⟨hn, ai, f, hp, hf, hA⟩ := hP
  obtain ⟨-, bi, g, hq, hg, hA2⟩ := hB
  intro e
  induction e with
  | zero =>
    intro k hk q1
    have : k = n := by omega
    subst this
    exact lz_X1_same hn hp q1
  | succ e ih =>
    intro k hk q1
    obtain ⟨x, hx, ha13, ha⟩ := hA k (by omega)
    obtain ⟨y, hy, hb13, hb⟩ := hA2 k (by omega)
    unfold fc_smL at q1
    refine lb_X1_same hn hp hq hf hg (by omega) hx hy ha13 hb13 ha hb (fun h => ?_) (fun h => ?_)
    · rw [if_pos (show fc_smK A B k = 0 from h)] at q1
      exact q1
    · rw [if_neg (show ¬ fc_smK A B k = 0 from fun h2 => absurd (h2.symm.trans h) (by decide))] at q1
      rw [nI_add1]
      exact ih (k + 1) (by omega) q1
theorem c_X1_same1 {G : pj_G} {d : Nat} {c : sx_C} {m : sx_M} {o : Nat → Int64} {D : pj_H} (p q : Int32) (h1 : ¬ fc_isProgram c.1 p = 0) (h2 : ¬ fc_isProgram c.1 q = 0) (hp4 : vp_in p 4) (hq4 : vp_in q 4) {pi po : Nat} (hpi : sx_P c p.toNatClampNeg = some (pi + 98)) (hqi : sx_P c q.toNatClampNeg = some (po + 98)) {ai n : Nat} {cn cd : Int64} (hn : n ≤ 20) (hp : D[pi]? = some (.inr (4, [.ref (ai + 98), .int (nI n), .long cn, .long cd]))) {bi n2 : Nat} {cn2 cd2 : Int64} (hn2 : n2 ≤ 20) (hq : D[po]? = some (.inr (4, [.ref (bi + 98), .int (nI n2), .long cn2, .long cd2]))) (hne : n ≠ n2) : pj_Rt G mX1_same (d + 1) [.ref 2, .int p, .int q] (sx_mk c m o D) 0 0 (some (.int 0)) (sx_mk c m o D) := by
  refine pj_Cn.start ?_
  refine pj_J.go (oX1_same G) 2 rfl trivial ?_
  refine pj_J.cal0 kX1_same_2 (c_X1_isProgram (c := c) p) ⟨_, _, _, rfl, rfl⟩ pj_le0 pj_le0 pj_le0 ?_
  refine pj_J.go (oX1_same G) 1 rfl trivial ?_
  refine pj_J.neg (h1) ?_
  refine pj_J.go (oX1_same G) 2 rfl trivial ?_
  refine pj_J.cal0 kX1_same_10 (c_X1_isProgram (c := c) q) ⟨_, _, _, rfl, rfl⟩ pj_le0 pj_le0 pj_le0 ?_
  refine pj_J.go (oX1_same G) 1 rfl trivial ?_
  refine pj_J.neg (h2) ?_
  refine pj_J.go (oX1_same G) 4 rfl ⟨by exact hp4, trivial⟩ ?_
  refine pj_J.seq (show va_rf (sx_P c p.toNatClampNeg) :: _ = .ref (pi + 98) :: _ by rw [hpi]; rfl) ?_
  refine pj_J.go (oX1_same G) 5 rfl ⟨by exact hq4, trivial⟩ ?_
  refine pj_J.seq (show va_rf (sx_P c q.toNatClampNeg) :: _ = .ref (po + 98) :: _ by rw [hqi]; rfl) ?_
  refine pj_J.go (oX1_same G) 2 rfl trivial ?_
  refine pj_J.go1 (pc := 34) (oX1_same G) rfl (po_getD (lo := 4) (hi := 4) (k := 1) (n := 37) (by exact hp) (by decide) (by rfl)) trivial ?_
  refine pj_J.go (oX1_same G) 1 rfl trivial ?_
  refine pj_J.go1 (pc := 39) (oX1_same G) rfl (po_getD (lo := 4) (hi := 4) (k := 1) (n := 42) (by exact hq) (by decide) (by rfl)) trivial ?_
  refine pj_J.go (oX1_same G) 1 rfl trivial ?_
  refine pj_J.neg (fun e => hne ((nI_eq (by omega) (by omega)).mp e)) ?_
  refine pj_J.go (oX1_same G) 1 rfl trivial ?_
  exact pj_iret dX1_same_46 rfl ⟨rfl, rfl⟩
theorem c_X1_same2 {G : pj_G} {d : Nat} {c : sx_C} {m : sx_M} {o : Nat → Int64} {D : pj_H} (p q : Int32) (h1 : ¬ fc_isProgram c.1 p = 0) (h2 : ¬ fc_isProgram c.1 q = 0) (hp4 : vp_in p 4) (hq4 : vp_in q 4) {pi po : Nat} (hpi : sx_P c p.toNatClampNeg = some (pi + 98)) (hqi : sx_P c q.toNatClampNeg = some (po + 98)) {n : Nat} {A B : fp_A} {cn cd cn2 cd2 : Int64} (hP : fp_prog D pi n A cn cd) (hB : fp_prog D po n B cn2 cd2) : pj_Rt G mX1_same (d + 1) [.ref 2, .int p, .int q] (sx_mk c m o D) 0 0 (some (.int (fc_smL A B n 0))) (sx_mk c m o D) := by
  have hP0 := hP
  have hB0 := hB
  obtain ⟨hn, ai, f, hp, hf, hA⟩ := hP
  obtain ⟨-, bi, g, hq, hg, hA2⟩ := hB
  refine pj_Cn.start ?_
  refine pj_J.go (oX1_same G) 2 rfl trivial ?_
  refine pj_J.cal0 kX1_same_2 (c_X1_isProgram (c := c) p) ⟨_, _, _, rfl, rfl⟩ pj_le0 pj_le0 pj_le0 ?_
  refine pj_J.go (oX1_same G) 1 rfl trivial ?_
  refine pj_J.neg (h1) ?_
  refine pj_J.go (oX1_same G) 2 rfl trivial ?_
  refine pj_J.cal0 kX1_same_10 (c_X1_isProgram (c := c) q) ⟨_, _, _, rfl, rfl⟩ pj_le0 pj_le0 pj_le0 ?_
  refine pj_J.go (oX1_same G) 1 rfl trivial ?_
  refine pj_J.neg (h2) ?_
  refine pj_J.go (oX1_same G) 4 rfl ⟨by exact hp4, trivial⟩ ?_
  refine pj_J.seq (show va_rf (sx_P c p.toNatClampNeg) :: _ = .ref (pi + 98) :: _ by rw [hpi]; rfl) ?_
  refine pj_J.go (oX1_same G) 5 rfl ⟨by exact hq4, trivial⟩ ?_
  refine pj_J.seq (show va_rf (sx_P c q.toNatClampNeg) :: _ = .ref (po + 98) :: _ by rw [hqi]; rfl) ?_
  refine pj_J.go (oX1_same G) 2 rfl trivial ?_
  refine pj_J.go1 (pc := 34) (oX1_same G) rfl (po_getD (lo := 4) (hi := 4) (k := 1) (n := 37) (by exact hp) (by decide) (by rfl)) trivial ?_
  refine pj_J.go (oX1_same G) 1 rfl trivial ?_
  refine pj_J.go1 (pc := 39) (oX1_same G) rfl (po_getD (lo := 4) (hi := 4) (k := 1) (n := 42) (by exact hq) (by decide) (by rfl)) trivial ?_
  refine pj_J.go (oX1_same G) 1 rfl trivial ?_
  refine pj_J.pos (rfl) ?_
  refine pj_J.go (oX1_same G) 2 rfl trivial ?_
  exact lp_X1_same hP0 hB0 n 0 (by omega) ⟨rfl, rfl⟩
