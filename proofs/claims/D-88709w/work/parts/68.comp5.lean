/-! PennyJudge: run, runs (by tools/gen_r1.py) -/
set_option maxRecDepth 100000
theorem sx_set_at {D : pj_H} {i : Nat} {x y : pj_E} (h : D[i]? = some y) : (D.set i x)[i]? = some x := by
  have := (List.getElem?_eq_some_iff.mp h).1
  rw [List.getElem?_set_self this]
def fc_rnA (w : sx_M) (k : Nat) (u : sx_M) : sx_M := sx_sL u 12 (vp_updL (sx_L u 12) (nI k).toNatClampNeg (sx_L w 8 (nI k).toNatClampNeg))
def fc_rnB (u : sx_M) (k : Nat) (w : sx_M) : sx_M := sx_sL w 8 (vp_updL (sx_L w 8) (nI k).toNatClampNeg (sx_L u 12 (nI k).toNatClampNeg))
theorem ly_rnA {G : pj_G} {d : Nat} {c : sx_C} {m : sx_M} {o : Nat → Int64} {D : pj_H} {Q : pj_O → pj_H → Prop} {p : Int32} {pi k : Nat} (hk : k < 8) (kk : pj_J G mX1_run (d + 4) 34 [some (.ref 2), some (.int p), some (.ref (pi + 98)), some (.int (nI k + 1)), none] [] (sx_mk (sx_sR c 0 (fc_rnA c.1 k (sx_R c 0))) m o D) 0 0 Q) : pj_J G mX1_run (d + 4) 34 [some (.ref 2), some (.int p), some (.ref (pi + 98)), some (.int (nI k)), none] [] (sx_mk c m o D) 0 0 Q := by
  refine pj_J.go (oX1_run G) 3 rfl trivial ?_
  refine pj_J.neg (nI_lt_lit hk (by decide)) ?_
  refine pj_J.go (oX1_run G) 11 rfl ⟨by exact vp_in_lit (by omega), by exact vp_in_lit (by omega), trivial⟩ ?_
  exact kk
def fc_rnU (w u : sx_M) (cn cd : Int64) : sx_M := fr_begin (sx_sl (sx_sl (sx_si u 13 (sx_i w 9)) 10 cn) 11 cd)
theorem lz_rnA {G : pj_G} {d : Nat} {c : sx_C} {m : sx_M} {o : Nat → Int64} {D : pj_H} {Q : pj_O → pj_H → Prop} {p : Int32} {pi ai n : Nat} {cn cd : Int64} (hn : n ≤ 20) (hp : D[pi]? = some (.inr (4, [.ref (ai + 98), .int (nI n), .long cn, .long cd]))) (kk : pj_J G mX1_run (d + 4) 103 [some (.ref 2), some (.int p), some (.ref (pi + 98)), some (.int (nI 0)), none] [] (sx_mk (sx_sR c 0 (fc_rnU c.1 (sx_R c 0) cn cd)) m o D) 0 0 Q) : pj_J G mX1_run (d + 4) 34 [some (.ref 2), some (.int p), some (.ref (pi + 98)), some (.int (nI 8)), none] [] (sx_mk c m o D) 0 0 Q := by
  refine pj_J.go (oX1_run G) 3 rfl trivial ?_
  refine pj_J.pos (nI_ge_lit (Nat.le_refl _) (by decide)) ?_
  refine pj_J.go (oX1_run G) 8 rfl trivial ?_
  refine pj_J.go1 (pc := 77) (oX1_run G) rfl (po_getD (lo := 4) (hi := 4) (k := 2) (n := 80) (by exact hp) (by decide) (by rfl)) trivial ?_
  refine pj_J.go (oX1_run G) 4 rfl trivial ?_
  refine pj_J.go1 (pc := 88) (oX1_run G) rfl (po_getD (lo := 4) (hi := 4) (k := 3) (n := 91) (by exact hp) (by decide) (by rfl)) trivial ?_
  refine pj_J.go (oX1_run G) 3 rfl trivial ?_
  refine pj_J.cal0 kX1_run_98 (c_X2_begin_0 (c := (sx_sR c 0 (sx_sl (sx_sl (sx_si (sx_R c 0) 13 (sx_i c.1 9)) 10 cn) 11 cd)))) ⟨_, _, _, rfl, rfl⟩ pj_le0 pj_le0 pj_le0 ?_
  refine pj_J.go (oX1_run G) 2 rfl trivial ?_
  exact kk
theorem lx_rn {G : pj_G} {d : Nat} {c : sx_C} {m : sx_M} {o : Nat → Int64} {D : pj_H} {Q : pj_O → pj_H → Prop} {p : Int32} {pi ai n x k : Nat} {f : Nat → Option Nat} {cn cd : Int64} (hn : n ≤ 20) (hp : D[pi]? = some (.inr (4, [.ref (ai + 98), .int (nI n), .long cn, .long cd]))) (hf : D[ai]? = some (.inl (7, (20, .inr (.inr (.inr (.inr f))))))) (hk : k < n) (hx : f k = some (x + 98)) (kk : pj_J G mX1_run (d + 4) 121 [some (.ref 2), some (.int p), some (.ref (pi + 98)), some (.int (nI k)), none] [.ref 10, .ref (x + 98)] (sx_mk c m o D) 0 0 Q) : pj_J G mX1_run (d + 4) 103 [some (.ref 2), some (.int p), some (.ref (pi + 98)), some (.int (nI k)), none] [] (sx_mk c m o D) 0 0 Q := by
  refine pj_J.go (oX1_run G) 2 rfl trivial ?_
  refine pj_J.go1 (pc := 105) (oX1_run G) rfl (po_getD (lo := 4) (hi := 4) (k := 1) (n := 108) (by exact hp) (by decide) (by rfl)) trivial ?_
  refine pj_J.go (oX1_run G) 1 rfl trivial ?_
  refine pj_J.neg (nI_lt_lit hk (by omega)) ?_
  refine pj_J.go (oX1_run G) 1 rfl trivial ?_
  refine pj_J.go1 (pc := 112) (oX1_run G) rfl (po_getD (lo := 4) (hi := 4) (k := 0) (n := 115) (by exact hp) (by decide) (by rfl)) trivial ?_
  refine pj_J.go (oX1_run G) 1 rfl trivial ?_
  refine pj_J.go1 (pc := 116) (oX1_run G) rfl (po_aaldD (n := 117) (by exact hf) (by decide)) (by exact vp_in_lit (by omega)) ?_
  refine pj_J.seq (show va_rf (f (nI k).toNatClampNeg) :: _ = .ref (x + 98) :: _ by rw [nI_clamp (by omega), hx]; rfl) ?_
  refine pj_J.go (oX1_run G) 2 rfl trivial ?_
  exact kk
theorem ly_rn {G : pj_G} {d : Nat} {c : sx_C} {m : sx_M} {o : Nat → Int64} {D : pj_H} {Q : pj_O → pj_H → Prop} {p : Int32} {pi k : Nat} (r : Int32) (q : ¬ r = 0 → Q (.inl (some (.int r))) (sx_mk (sx_sM c (sx_si c.1 15 (nI k))) m o D)) (kk : r = 0 → pj_J G mX1_run (d + 4) 103 [some (.ref 2), some (.int p), some (.ref (pi + 98)), some (.int (nI k + 1)), none] [] (sx_mk c m o D) 0 0 Q) : pj_J G mX1_run (d + 4) 124 [some (.ref 2), some (.int p), some (.ref (pi + 98)), some (.int (nI k)), none] [.int r] (sx_mk c m o D) 0 0 Q := by
  refine pj_J.go (oX1_run G) 3 rfl trivial ?_
  refine pj_J.ite (fun hc128 => ?_) (fun hc128 => ?_)
  · skip
    refine pj_J.go (oX1_run G) 2 rfl trivial ?_
    exact pj_J.drp (kk hc128) ⟨rfl, rfl, rfl, rfl, trivial⟩
  · skip
    refine pj_J.go (oX1_run G) 4 rfl trivial ?_
    exact pj_iret dX1_run_138 rfl (q hc128)
theorem lz_rn {G : pj_G} {d : Nat} {c : sx_C} {m : sx_M} {o : Nat → Int64} {D : pj_H} {Q : pj_O → pj_H → Prop} {p : Int32} {pi ai n : Nat} {cn cd : Int64} (hn : n ≤ 20) (hp : D[pi]? = some (.inr (4, [.ref (ai + 98), .int (nI n), .long cn, .long cd]))) (kk : pj_J G mX1_run (d + 4) 153 [some (.ref 2), some (.int p), some (.ref (pi + 98)), some (.int (nI 0)), none] [] (sx_mk (sx_sM c (sx_si c.1 15 (-2))) m o D) 0 0 Q) : pj_J G mX1_run (d + 4) 103 [some (.ref 2), some (.int p), some (.ref (pi + 98)), some (.int (nI n)), none] [] (sx_mk c m o D) 0 0 Q := by
  refine pj_J.go (oX1_run G) 2 rfl trivial ?_
  refine pj_J.go1 (pc := 105) (oX1_run G) rfl (po_getD (lo := 4) (hi := 4) (k := 1) (n := 108) (by exact hp) (by decide) (by rfl)) trivial ?_
  refine pj_J.go (oX1_run G) 1 rfl trivial ?_
  refine pj_J.pos (nI_ge_lit (Nat.le_refl _) (by omega)) ?_
  refine pj_J.go (oX1_run G) 5 rfl trivial ?_
  exact kk
theorem ly_rnB {G : pj_G} {d : Nat} {c : sx_C} {m : sx_M} {o : Nat → Int64} {D : pj_H} {Q : pj_O → pj_H → Prop} {p : Int32} {pi k : Nat} (hk : k < 8) (kk : pj_J G mX1_run (d + 4) 153 [some (.ref 2), some (.int p), some (.ref (pi + 98)), some (.int (nI k + 1)), none] [] (sx_mk (sx_sM c (fc_rnB (sx_R c 0) k c.1)) m o D) 0 0 Q) : pj_J G mX1_run (d + 4) 153 [some (.ref 2), some (.int p), some (.ref (pi + 98)), some (.int (nI k)), none] [] (sx_mk c m o D) 0 0 Q := by
  refine pj_J.go (oX1_run G) 3 rfl trivial ?_
  refine pj_J.neg (nI_lt_lit hk (by decide)) ?_
  refine pj_J.go (oX1_run G) 11 rfl ⟨by exact vp_in_lit (by omega), by exact vp_in_lit (by omega), trivial⟩ ?_
  exact kk
theorem lz_rnB {G : pj_G} {d : Nat} {c : sx_C} {m : sx_M} {o : Nat → Int64} {D : pj_H} {Q : pj_O → pj_H → Prop} {p : Int32} {pi ai n : Nat} {cn cd : Int64} (hn : n ≤ 20) (hp : D[pi]? = some (.inr (4, [.ref (ai + 98), .int (nI n), .long cn, .long cd]))) (q : Q (.inl (some (.int (nI n)))) (sx_mk (sx_sM c (sx_si c.1 9 (sx_i (sx_R c 0) 13))) m o ((D.set pi (.inr (4, [.ref (ai + 98), .int (nI n), .long (sx_l (sx_R c 0) 10), .long cd]))).set pi (.inr (4, [.ref (ai + 98), .int (nI n), .long (sx_l (sx_R c 0) 10), .long (sx_l (sx_R c 0) 11)]))))) : pj_J G mX1_run (d + 4) 153 [some (.ref 2), some (.int p), some (.ref (pi + 98)), some (.int (nI 8)), none] [] (sx_mk c m o D) 0 0 Q := by
  refine pj_J.go (oX1_run G) 3 rfl trivial ?_
  refine pj_J.pos (nI_ge_lit (Nat.le_refl _) (by decide)) ?_
  refine pj_J.go (oX1_run G) 9 rfl trivial ?_
  refine pj_J.go1 (pc := 199) (oX1_run G) rfl (po_putD (cnd := none) (lo := 4) (hi := 4) (k := 2) (ty := .long) (n := 202) (by exact hp) (by decide) (by exact Nat.le_of_ble_eq_true rfl) (by rfl)) trivial ?_
  refine pj_J.go (oX1_run G) 4 rfl trivial ?_
  refine pj_J.go1 (pc := 210) (oX1_run G) rfl (po_putD (cnd := none) (lo := 4) (hi := 4) (k := 3) (ty := .long) (n := 213) (by exact (sx_set_at hp)) (by decide) (by exact Nat.le_of_ble_eq_true rfl) (by rfl)) trivial ?_
  refine pj_J.go (oX1_run G) 1 rfl trivial ?_
  refine pj_J.go1 (pc := 214) (oX1_run G) rfl (po_getD (lo := 4) (hi := 4) (k := 1) (n := 217) (by exact (sx_set_at (sx_set_at hp))) (by decide) (by rfl)) trivial ?_
  exact pj_iret dX1_run_217 rfl q
theorem lp_rn {G : pj_G} {d : Nat} {c : sx_C} {m : sx_M} {o : Nat → Int64} {D : pj_H} {p : Int32} {pi n : Nat} {A : fp_A} {cn cd : Int64} (hP : fp_prog D pi n A cn cd) (Q : pj_O → pj_H → Prop) : ∀ (e k : Nat) (z : sx_M × sx_M), k + e = n → fa_runA A e k z → (∀ w u, fa_runL A e k z = (none, w, u) → pj_J G mX1_run (d + 4) 153 [some (.ref 2), some (.int p), some (.ref (pi + 98)), some (.int (nI 0)), none] [] (sx_mk (sx_sR (sx_sM c (sx_si w 15 (-2))) 0 u) m o D) 0 0 Q) → (∀ i r w u, fa_runL A e k z = (some (i, r), w, u) → Q (.inl (some (.int r))) (sx_mk (sx_sR (sx_sM c (sx_si w 15 (nI i))) 0 u) m o D)) → pj_J G mX1_run (d + 4) 103 [some (.ref 2), some (.int p), some (.ref (pi + 98)), some (.int (nI k)), none] [] (sx_mk (sx_sR (sx_sM c z.1) 0 z.2) m o D) 0 0 Q := by
  obtain ⟨hn, ai, f, hp, hf, hA⟩ := hP
  intro e
  induction e with
  | zero =>
    intro k z hk hO q1 q2
    have : k = n := by omega
    subst this
    exact lz_rn (c := sx_sR (sx_sM c z.1) 0 z.2) hn hp (q1 _ _ rfl)
  | succ e ih =>
    intro k z hk hO q1 q2
    obtain ⟨x, hx, hk13, ha⟩ := hA k (by omega)
    refine lx_rn (c := sx_sR (sx_sM c z.1) 0 z.2) hn hp hf (by omega) hx ?_
    refine la_X1_run_0 (c := sx_sR (sx_sM c z.1) 0 z.2) hk13 ha hO.1 ?_
    unfold fa_runL at q1 q2
    refine ly_rn (c := sx_sR (sx_sM c (fa_one A k z).2.2) 0 (fa_one A k z).2.1) (fa_one A k z).1 (fun h => ?_) (fun h => ?_)
    · rw [if_neg h] at q2
      exact q2 k _ _ _ rfl
    · rw [if_pos h] at q1 q2
      rw [nI_add1]
      exact ih (k + 1) ((fa_one A k z).2.2, (fa_one A k z).2.1) (by omega) (hO.2 h) q1 q2
/-- what run begins its acts with -/
def fc_runZ (c : sx_C) (nl : Nat) (cn cd : Int64) : sx_M × sx_M := (c.1, fc_rnU c.1 (it_up (fc_rnA c.1) 8 0 (fr_bill (sx_R c 0) (sx_I c.1 2) nl)) cn cd)
/-- the judge behind a run without failure -/
def fc_runW (w u : sx_M) : sx_M := sx_si (it_up (fc_rnB u) 8 0 (sx_si w 15 (-2))) 9 (sx_i u 13)
/-- run: its answer, the judge, the moving cells' new program -/
def fc_runR (c : sx_C) (D : pj_H) (pi ai n : Nat) (cd : Int64) (r : Option (Nat × Int32) × sx_M × sx_M) : Int32 × sx_C × pj_H := match r with
  | (some (i, e), w, u) => (e, sx_sR (sx_sM c (sx_si w 15 (nI i))) 0 u, D)
  | (none, w, u) => (nI n, sx_sR (sx_sM c (fc_runW w u)) 0 u, (D.set pi (.inr (4, [.ref (ai + 98), .int (nI n), .long (sx_l u 10), .long cd]))).set pi (.inr (4, [.ref (ai + 98), .int (nI n), .long (sx_l u 10), .long (sx_l u 11)])))
theorem c_X1_run0 {G : pj_G} {d : Nat} {c : sx_C} {m : sx_M} {o : Nat → Int64} {D : pj_H} (p : Int32) (h : fc_isProgram c.1 p = 0) : pj_Rt G mX1_run (d + 4) [.ref 2, .int p] (sx_mk c m o D) 0 0 (some (.int (-1))) (sx_mk c m o D) := by
  refine pj_Cn.start ?_
  refine pj_J.go (oX1_run G) 2 rfl trivial ?_
  refine pj_J.cal0 kX1_run_2 (c_X1_isProgram (c := c) p) ⟨_, _, _, rfl, rfl⟩ pj_le0 pj_le0 pj_le0 ?_
  refine pj_J.go (oX1_run G) 1 rfl trivial ?_
  refine pj_J.pos (h) ?_
  refine pj_J.go (oX1_run G) 1 rfl trivial ?_
  exact pj_iret dX1_run_9 rfl ⟨rfl, rfl⟩
theorem c_X1_run1 {G : pj_G} {d : Nat} {c : sx_C} {m : sx_M} {o : Nat → Int64} {D : pj_H} (p : Int32) (h : ¬ fc_isProgram c.1 p = 0) (hp4 : vp_in p 4) {pi n : Nat} (hpi : sx_P c p.toNatClampNeg = some (pi + 98)) {A : fp_A} {cn cd : Int64} (hn : n ≤ 20) {ai : Nat} {f : Nat → Option Nat} (hp : D[pi]? = some (.inr (4, [.ref (ai + 98), .int (nI n), .long cn, .long cd]))) (hf : D[ai]? = some (.inl (7, (20, .inr (.inr (.inr (.inr f))))))) (hA : ∀ k, k < n → fp_act D f A k) (nl : Nat) (hnl : nl ≤ 12) (en : sx_i c.1 3 = nI nl) (hO : fa_runA A n 0 (fc_runZ c nl cn cd)) : pj_Rt G mX1_run (d + 4) [.ref 2, .int p] (sx_mk c m o D) 0 0 (some (.int (fc_runR c D pi ai n cd (fa_runL A n 0 (fc_runZ c nl cn cd))).1)) (sx_mk (fc_runR c D pi ai n cd (fa_runL A n 0 (fc_runZ c nl cn cd))).2.1 m o (fc_runR c D pi ai n cd (fa_runL A n 0 (fc_runZ c nl cn cd))).2.2) := by
  refine pj_Cn.start ?_
  refine pj_J.go (oX1_run G) 2 rfl trivial ?_
  refine pj_J.cal0 kX1_run_2 (c_X1_isProgram (c := c) p) ⟨_, _, _, rfl, rfl⟩ pj_le0 pj_le0 pj_le0 ?_
  refine pj_J.go (oX1_run G) 1 rfl trivial ?_
  refine pj_J.neg (h) ?_
  refine pj_J.go (oX1_run G) 4 rfl ⟨by exact hp4, trivial⟩ ?_
  refine pj_J.seq (show va_rf (sx_P c p.toNatClampNeg) :: _ = .ref (pi + 98) :: _ by rw [hpi]; rfl) ?_
  refine pj_J.go (oX1_run G) 7 rfl trivial ?_
  refine pj_J.seq (st' := [.int (nI nl), .ref 5, .ref 10]) (by rw [en]; rfl) ?_
  refine pj_J.cal0 kX1_run_29 (c_X2_bill_5_0 (c := c) nl hnl) ⟨_, _, _, rfl, rfl⟩ pj_le0 pj_le0 pj_le0 ?_
  refine pj_J.go (oX1_run G) 2 rfl trivial ?_
  refine pj_for (σ := sx_M) (fun (k : Nat) (u : sx_M) => pj_J G mX1_run (d + 4) 34 [some (.ref 2), some (.int p), some (.ref (pi + 98)), some (.int (nI k)), none] [] (sx_mk (sx_sR c 0 u) m o D) 0 0 _) (fc_rnA c.1) (fun _ _ => True) 8 (fun k u hk hi => ⟨hi, fun kk => ly_rnA (c := sx_sR c 0 u) hk (by rw [nI_add1]; exact kk)⟩) 8 0 (fr_bill (sx_R c 0) (sx_I c.1 2) nl) (by simp) trivial (fun _ => ?_)
  refine lz_rnA (c := sx_sR c 0 (it_up (fc_rnA c.1) 8 0 (fr_bill (sx_R c 0) (sx_I c.1 2) nl))) hn hp ?_
  refine lp_rn (c := c) ⟨hn, ai, f, hp, hf, hA⟩ _ n 0 (fc_runZ c nl cn cd) (by omega) hO (fun w u hr => ?_) (fun i r w u hr => ?_)
  · rw [hr]
    refine pj_for (σ := sx_M) (fun (k : Nat) (x : sx_M) => pj_J G mX1_run (d + 4) 153 [some (.ref 2), some (.int p), some (.ref (pi + 98)), some (.int (nI k)), none] [] (sx_mk (sx_sR (sx_sM c x) 0 u) m o D) 0 0 _) (fc_rnB u) (fun _ _ => True) 8 (fun k x hk hi => ⟨hi, fun kk => ly_rnB (c := sx_sR (sx_sM c x) 0 u) hk (by rw [nI_add1]; exact kk)⟩) 8 0 (sx_si w 15 (-2)) (by simp) trivial (fun _ => ?_)
    exact lz_rnB (c := sx_sR (sx_sM c (it_up (fc_rnB u) 8 0 (sx_si w 15 (-2)))) 0 u) hn hp ⟨rfl, rfl⟩
  · rw [hr]
    exact ⟨rfl, rfl⟩
def fc_rsW (w : sx_M) (u : Int32) : sx_M := sx_sI w 18 (upd (sx_I w 18) (0 : Int32).toNatClampNeg u)
/-- runs: whether it does not fail; the judge's own, the run -/
def fc_runs (A : fp_A) (n : Nat) (w u : sx_M) (x : Int32) : Int32 × sx_M × sx_M := (if (fp_run A n (fc_rsW w x) (fr_bare (fr_bill u (sx_I (fc_rsW w x) 18) 1))).1 < 0 then 0 else 1, (fp_run A n (fc_rsW w x) (fr_bare (fr_bill u (sx_I (fc_rsW w x) 18) 1))).2)
def fc_runsOk (A : fp_A) (n : Nat) (w u : sx_M) (x : Int32) : Prop := fa_runA A n 0 (fc_rsW w x, fr_begin (fr_bare (fr_bill u (sx_I (fc_rsW w x) 18) 1)))
theorem fc_runs01 (A : fp_A) (n : Nat) (w u : sx_M) (x : Int32) : (fc_runs A n w u x).1 = 0 ∨ (fc_runs A n w u x).1 = 1 := by
  unfold fc_runs
  dsimp only
  split
  · exact Or.inl rfl
  · exact Or.inr rfl
theorem c_X1_runs_1 {G : pj_G} {d : Nat} {c : sx_C} {m : sx_M} {o : Nat → Int64} {D : pj_H} {pi n : Nat} {A : fp_A} {cn cd : Int64} (hP : fp_prog D pi n A cn cd) (x : Int32) (hO : fc_runsOk A n c.1 (sx_R c 1) x) : pj_Rt G mX1_runs (d + 5) [.ref 2, .ref (pi + 98), .ref 21, .int x] (sx_mk c m o D) 0 0 (some (.int (fc_runs A n c.1 (sx_R c 1) x).1)) (sx_mk (sx_sR (sx_sM c (fc_runs A n c.1 (sx_R c 1) x).2.1) 1 (fc_runs A n c.1 (sx_R c 1) x).2.2) m o D) := by
  refine pj_Cn.start ?_
  refine pj_J.go (oX1_runs G) 9 rfl ⟨by exact vp_in_lit (k := 0) (by decide), trivial⟩ ?_
  refine pj_J.cal0 kX1_runs_13 (c_X2_bill_47_1 (c := sx_sM c (fc_rsW c.1 x)) 1 (by decide)) ⟨_, _, _, rfl, rfl⟩ pj_le0 pj_le0 pj_le0 ?_
  refine pj_J.go (oX1_runs G) 1 rfl trivial ?_
  refine pj_J.cal0 kX1_runs_17 (c_X2_bare_1 (c := (sx_sR (sx_sM c (fc_rsW c.1 x)) 1 (fr_bill (sx_R c 1) (sx_I (fc_rsW c.1 x) 18) 1)))) ⟨_, _, _, rfl, rfl⟩ pj_le0 pj_le0 pj_le0 ?_
  refine pj_J.go (oX1_runs G) 2 rfl trivial ?_
  refine pj_J.cal0 kX1_runs_22 (c_X5_run_1 (c := sx_sR (sx_sM c (fc_rsW c.1 x)) 1 (fr_bare (fr_bill (sx_R c 1) (sx_I (fc_rsW c.1 x) 18) 1))) hP hO) ⟨_, _, _, rfl, hP.2.choose_spec.choose_spec.1⟩ pj_le0 pj_le0 pj_le0 ?_
  refine pj_J.go (oX1_runs G) 1 rfl trivial ?_
  refine pj_J.ite (fun hc25 => ?_) (fun hc25 => ?_)
  · skip
    refine pj_J.go (oX1_runs G) 1 rfl trivial ?_
    refine pj_zret dX1_runs_33 rfl (by first | exact Or.inl rfl | exact Or.inr rfl | exact pj_b01 _ | assumption) ?_
    show _ = _ ∧ _ = _
    have e : (fc_runs A n c.1 (sx_R c 1) x) = ((0 : Int32), (fp_run A n (fc_rsW c.1 x) (fr_bare (fr_bill (sx_R c 1) (sx_I (fc_rsW c.1 x) 18) 1))).2) := by unfold fc_runs; rw [if_pos (show (fp_run A n (fc_rsW c.1 x) (fr_bare (fr_bill (sx_R c 1) (sx_I (fc_rsW c.1 x) 18) 1))).1 < (0 : Int32) from hc25)]
    rw [e]
    exact ⟨rfl, rfl⟩
  · skip
    refine pj_J.go (oX1_runs G) 2 rfl trivial ?_
    refine pj_zret dX1_runs_33 rfl (by first | exact Or.inl rfl | exact Or.inr rfl | exact pj_b01 _ | assumption) ?_
    show _ = _ ∧ _ = _
    have e : (fc_runs A n c.1 (sx_R c 1) x) = ((1 : Int32), (fp_run A n (fc_rsW c.1 x) (fr_bare (fr_bill (sx_R c 1) (sx_I (fc_rsW c.1 x) 18) 1))).2) := by unfold fc_runs; rw [if_neg (show ¬ ((fp_run A n (fc_rsW c.1 x) (fr_bare (fr_bill (sx_R c 1) (sx_I (fc_rsW c.1 x) 18) 1))).1 < (0 : Int32)) from hc25)]
    rw [e]
    exact ⟨rfl, rfl⟩
theorem c_X1_runs_2 {G : pj_G} {d : Nat} {c : sx_C} {m : sx_M} {o : Nat → Int64} {D : pj_H} {pi n : Nat} {A : fp_A} {cn cd : Int64} (hP : fp_prog D pi n A cn cd) (x : Int32) (hO : fc_runsOk A n c.1 (sx_R c 2) x) : pj_Rt G mX1_runs (d + 5) [.ref 2, .ref (pi + 98), .ref 32, .int x] (sx_mk c m o D) 0 0 (some (.int (fc_runs A n c.1 (sx_R c 2) x).1)) (sx_mk (sx_sR (sx_sM c (fc_runs A n c.1 (sx_R c 2) x).2.1) 2 (fc_runs A n c.1 (sx_R c 2) x).2.2) m o D) := by
  refine pj_Cn.start ?_
  refine pj_J.go (oX1_runs G) 9 rfl ⟨by exact vp_in_lit (k := 0) (by decide), trivial⟩ ?_
  refine pj_J.cal0 kX1_runs_13 (c_X2_bill_47_2 (c := sx_sM c (fc_rsW c.1 x)) 1 (by decide)) ⟨_, _, _, rfl, rfl⟩ pj_le0 pj_le0 pj_le0 ?_
  refine pj_J.go (oX1_runs G) 1 rfl trivial ?_
  refine pj_J.cal0 kX1_runs_17 (c_X2_bare_2 (c := (sx_sR (sx_sM c (fc_rsW c.1 x)) 2 (fr_bill (sx_R c 2) (sx_I (fc_rsW c.1 x) 18) 1)))) ⟨_, _, _, rfl, rfl⟩ pj_le0 pj_le0 pj_le0 ?_
  refine pj_J.go (oX1_runs G) 2 rfl trivial ?_
  refine pj_J.cal0 kX1_runs_22 (c_X5_run_2 (c := sx_sR (sx_sM c (fc_rsW c.1 x)) 2 (fr_bare (fr_bill (sx_R c 2) (sx_I (fc_rsW c.1 x) 18) 1))) hP hO) ⟨_, _, _, rfl, hP.2.choose_spec.choose_spec.1⟩ pj_le0 pj_le0 pj_le0 ?_
  refine pj_J.go (oX1_runs G) 1 rfl trivial ?_
  refine pj_J.ite (fun hc25 => ?_) (fun hc25 => ?_)
  · skip
    refine pj_J.go (oX1_runs G) 1 rfl trivial ?_
    refine pj_zret dX1_runs_33 rfl (by first | exact Or.inl rfl | exact Or.inr rfl | exact pj_b01 _ | assumption) ?_
    show _ = _ ∧ _ = _
    have e : (fc_runs A n c.1 (sx_R c 2) x) = ((0 : Int32), (fp_run A n (fc_rsW c.1 x) (fr_bare (fr_bill (sx_R c 2) (sx_I (fc_rsW c.1 x) 18) 1))).2) := by unfold fc_runs; rw [if_pos (show (fp_run A n (fc_rsW c.1 x) (fr_bare (fr_bill (sx_R c 2) (sx_I (fc_rsW c.1 x) 18) 1))).1 < (0 : Int32) from hc25)]
    rw [e]
    exact ⟨rfl, rfl⟩
  · skip
    refine pj_J.go (oX1_runs G) 2 rfl trivial ?_
    refine pj_zret dX1_runs_33 rfl (by first | exact Or.inl rfl | exact Or.inr rfl | exact pj_b01 _ | assumption) ?_
    show _ = _ ∧ _ = _
    have e : (fc_runs A n c.1 (sx_R c 2) x) = ((1 : Int32), (fp_run A n (fc_rsW c.1 x) (fr_bare (fr_bill (sx_R c 2) (sx_I (fc_rsW c.1 x) 18) 1))).2) := by unfold fc_runs; rw [if_neg (show ¬ ((fp_run A n (fc_rsW c.1 x) (fr_bare (fr_bill (sx_R c 2) (sx_I (fc_rsW c.1 x) 18) 1))).1 < (0 : Int32)) from hc25)]
    rw [e]
    exact ⟨rfl, rfl⟩
