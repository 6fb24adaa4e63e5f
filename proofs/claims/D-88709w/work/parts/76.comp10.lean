/-! PennyJudge: spread, drift (by tools/gen_s3.py) -/
set_option maxRecDepth 100000
def fc_spI (rest od more : Int32) (k : Nat) (u : sx_M) : sx_M := if (sx_I u 19 (nI k).toNatClampNeg) = (-1000 : Int32) then u else (if ((sx_I u 19 (nI k).toNatClampNeg) + more) ≤ (sx_I u 21 (((((nI k) / (2 : Int32)) + rest) * (2 : Int32)) + ((((nI k) &&& (1 : Int32)) + od) &&& (1 : Int32))).toNatClampNeg) then (if (sx_I u 22 (((((nI k) / (2 : Int32)) + rest) * (2 : Int32)) + ((((nI k) &&& (1 : Int32)) + od) &&& (1 : Int32))).toNatClampNeg) ≤ ((sx_I u 20 (nI k).toNatClampNeg) + more) then u else (sx_sI u 22 (upd (sx_I u 22) (((((nI k) / (2 : Int32)) + rest) * (2 : Int32)) + ((((nI k) &&& (1 : Int32)) + od) &&& (1 : Int32))).toNatClampNeg ((sx_I u 20 (nI k).toNatClampNeg) + more)))) else (if (sx_I u 22 (((((nI k) / (2 : Int32)) + rest) * (2 : Int32)) + ((((nI k) &&& (1 : Int32)) + od) &&& (1 : Int32))).toNatClampNeg) ≤ ((sx_I u 20 (nI k).toNatClampNeg) + more) then (sx_sI u 21 (upd (sx_I u 21) (((((nI k) / (2 : Int32)) + rest) * (2 : Int32)) + ((((nI k) &&& (1 : Int32)) + od) &&& (1 : Int32))).toNatClampNeg ((sx_I u 19 (nI k).toNatClampNeg) + more))) else (sx_sI (sx_sI u 21 (upd (sx_I u 21) (((((nI k) / (2 : Int32)) + rest) * (2 : Int32)) + ((((nI k) &&& (1 : Int32)) + od) &&& (1 : Int32))).toNatClampNeg ((sx_I u 19 (nI k).toNatClampNeg) + more))) 22 (upd (sx_I u 22) (((((nI k) / (2 : Int32)) + rest) * (2 : Int32)) + ((((nI k) &&& (1 : Int32)) + od) &&& (1 : Int32))).toNatClampNeg ((sx_I u 20 (nI k).toNatClampNeg) + more)))))
theorem ly_fc_spI {G : pj_G} {d : Nat} {c : sx_C} {m : sx_M} {o : Nat → Int64} {D : pj_H} {Q : pj_O → pj_H → Prop} (rest od more : Int32) (k : Nat) (a : Int32) (e dn by_ md mo per : Int32) (S M : Nat) (hS : S ≤ 2600) (hM : M ≤ 1000) (hk : k < S) (hto : ∀ k, k < S → vp_in ((nI k / 2 + rest) * 2 + ((nI k &&& 1) + od &&& 1)) 2600) (kk : pj_J G mX1_spread (d + 3) 79 [some (.ref 2), some (.int e), some (.int dn), some (.int by_), some (.int md), some (.int mo), some (.int (nI S)), some (.int per), some (.int (nI M)), some (.int a), some (.int rest), some (.int od), some (.int more), some (.int (nI k + 1)), none] [] (sx_mk (sx_sM c (fc_spI rest od more k c.1)) m o D) 0 0 Q) : pj_J G mX1_spread (d + 3) 79 [some (.ref 2), some (.int e), some (.int dn), some (.int by_), some (.int md), some (.int mo), some (.int (nI S)), some (.int per), some (.int (nI M)), some (.int a), some (.int rest), some (.int od), some (.int more), some (.int (nI k)), none] [] (sx_mk c m o D) 0 0 Q := by
  unfold fc_spI at kk
  refine pj_J.go (oX1_spread G) 3 rfl trivial ?_
  refine pj_J.neg (nI_lt_lit hk (by omega)) ?_
  refine pj_J.go (oX1_spread G) 6 rfl ⟨by exact vp_in_lit (by omega), trivial⟩ ?_
  refine pj_J.ite (fun hc96 => ?_) (fun hc96 => ?_)
  · skip
    refine pj_J.go (oX1_spread G) 3 rfl trivial ?_
    rw [if_pos (show (sx_I c.1 19 (nI k).toNatClampNeg) = (-1000 : Int32) from hc96)] at kk
    exact pj_J.drp kk ⟨rfl, rfl, rfl, rfl, rfl, rfl, rfl, rfl, rfl, rfl, rfl, rfl, rfl, rfl, trivial⟩
  · skip
    refine pj_J.go (oX1_spread G) 27 rfl ⟨by decide, by exact vp_in_lit (by omega), by exact hto k hk, trivial⟩ ?_
    refine pj_J.ite (fun hc140 => ?_) (fun hc140 => ?_)
    · skip
      refine pj_J.go (oX1_spread G) 11 rfl ⟨by exact vp_in_lit (by omega), by exact hto k hk, trivial⟩ ?_
      refine pj_J.ite (fun hc177 => ?_) (fun hc177 => ?_)
      · skip
        refine pj_J.go (oX1_spread G) 2 rfl trivial ?_
        rw [if_neg (show ¬ ((sx_I c.1 19 (nI k).toNatClampNeg) = (-1000 : Int32)) from hc96), if_pos (show ((sx_I c.1 19 (nI k).toNatClampNeg) + more) ≤ (sx_I c.1 21 (((((nI k) / (2 : Int32)) + rest) * (2 : Int32)) + ((((nI k) &&& (1 : Int32)) + od) &&& (1 : Int32))).toNatClampNeg) from hc140), if_pos (show (sx_I c.1 22 (((((nI k) / (2 : Int32)) + rest) * (2 : Int32)) + ((((nI k) &&& (1 : Int32)) + od) &&& (1 : Int32))).toNatClampNeg) ≤ ((sx_I c.1 20 (nI k).toNatClampNeg) + more) from hc177)] at kk
        exact pj_J.drp kk ⟨rfl, rfl, rfl, rfl, rfl, rfl, rfl, rfl, rfl, rfl, rfl, rfl, rfl, rfl, trivial⟩
      · skip
        refine pj_J.go (oX1_spread G) 12 rfl ⟨by exact vp_in_lit (by omega), by exact hto k hk, trivial⟩ ?_
        rw [if_neg (show ¬ ((sx_I c.1 19 (nI k).toNatClampNeg) = (-1000 : Int32)) from hc96), if_pos (show ((sx_I c.1 19 (nI k).toNatClampNeg) + more) ≤ (sx_I c.1 21 (((((nI k) / (2 : Int32)) + rest) * (2 : Int32)) + ((((nI k) &&& (1 : Int32)) + od) &&& (1 : Int32))).toNatClampNeg) from hc140), if_neg (show ¬ ((sx_I c.1 22 (((((nI k) / (2 : Int32)) + rest) * (2 : Int32)) + ((((nI k) &&& (1 : Int32)) + od) &&& (1 : Int32))).toNatClampNeg) ≤ ((sx_I c.1 20 (nI k).toNatClampNeg) + more)) from hc177)] at kk
        exact pj_J.drp kk ⟨rfl, rfl, rfl, rfl, rfl, rfl, rfl, rfl, rfl, rfl, rfl, rfl, rfl, rfl, trivial⟩
    · skip
      refine pj_J.go (oX1_spread G) 21 rfl ⟨by exact vp_in_lit (by omega), by exact hto k hk, by exact vp_in_lit (by omega), by exact hto k hk, trivial⟩ ?_
      refine pj_J.ite (fun hc177 => ?_) (fun hc177 => ?_)
      · skip
        refine pj_J.go (oX1_spread G) 2 rfl trivial ?_
        rw [if_neg (show ¬ ((sx_I c.1 19 (nI k).toNatClampNeg) = (-1000 : Int32)) from hc96), if_neg (show ¬ (((sx_I c.1 19 (nI k).toNatClampNeg) + more) ≤ (sx_I c.1 21 (((((nI k) / (2 : Int32)) + rest) * (2 : Int32)) + ((((nI k) &&& (1 : Int32)) + od) &&& (1 : Int32))).toNatClampNeg)) from hc140), if_pos (show (sx_I c.1 22 (((((nI k) / (2 : Int32)) + rest) * (2 : Int32)) + ((((nI k) &&& (1 : Int32)) + od) &&& (1 : Int32))).toNatClampNeg) ≤ ((sx_I c.1 20 (nI k).toNatClampNeg) + more) from hc177)] at kk
        exact pj_J.drp kk ⟨rfl, rfl, rfl, rfl, rfl, rfl, rfl, rfl, rfl, rfl, rfl, rfl, rfl, rfl, trivial⟩
      · skip
        refine pj_J.go (oX1_spread G) 12 rfl ⟨by exact vp_in_lit (by omega), by exact hto k hk, trivial⟩ ?_
        rw [if_neg (show ¬ ((sx_I c.1 19 (nI k).toNatClampNeg) = (-1000 : Int32)) from hc96), if_neg (show ¬ (((sx_I c.1 19 (nI k).toNatClampNeg) + more) ≤ (sx_I c.1 21 (((((nI k) / (2 : Int32)) + rest) * (2 : Int32)) + ((((nI k) &&& (1 : Int32)) + od) &&& (1 : Int32))).toNatClampNeg)) from hc140), if_neg (show ¬ ((sx_I c.1 22 (((((nI k) / (2 : Int32)) + rest) * (2 : Int32)) + ((((nI k) &&& (1 : Int32)) + od) &&& (1 : Int32))).toNatClampNeg) ≤ ((sx_I c.1 20 (nI k).toNatClampNeg) + more)) from hc177)] at kk
        exact pj_J.drp kk ⟨rfl, rfl, rfl, rfl, rfl, rfl, rfl, rfl, rfl, rfl, rfl, rfl, rfl, rfl, trivial⟩
theorem lz_fc_spI {G : pj_G} {d : Nat} {c : sx_C} {m : sx_M} {o : Nat → Int64} {D : pj_H} {Q : pj_O → pj_H → Prop} (rest od more a : Int32) (e dn by_ md mo per : Int32) (S M : Nat) (hS : S ≤ 2600) (hM : M ≤ 1000)  (kk : pj_J G mX1_spread (d + 3) 39 [some (.ref 2), some (.int e), some (.int dn), some (.int by_), some (.int md), some (.int mo), some (.int (nI S)), some (.int per), some (.int (nI M)), some (.int (a + 1)), none, none, none, none, none] [] (sx_mk c m o D) 0 0 Q) : pj_J G mX1_spread (d + 3) 79 [some (.ref 2), some (.int e), some (.int dn), some (.int by_), some (.int md), some (.int mo), some (.int (nI S)), some (.int per), some (.int (nI M)), some (.int a), some (.int rest), some (.int od), some (.int more), some (.int (nI S)), none] [] (sx_mk c m o D) 0 0 Q := by
  refine pj_J.go (oX1_spread G) 3 rfl trivial ?_
  refine pj_J.pos (nI_ge_lit (Nat.le_refl _) (by omega)) ?_
  refine pj_J.go (oX1_spread G) 2 rfl trivial ?_
  exact pj_J.drp kk ⟨rfl, rfl, rfl, rfl, rfl, rfl, rfl, rfl, rfl, rfl, trivial⟩
theorem lx_fc_spO {G : pj_G} {d : Nat} {c : sx_C} {m : sx_M} {o : Nat → Int64} {D : pj_H} {Q : pj_O → pj_H → Prop} (e dn by_ md mo per : Int32) (S M : Nat) (hS : S ≤ 2600) (hM : M ≤ 1000) (k : Nat) (hk : k ≤ M) (hez : ¬ e = 0) (hez2 : ¬ e.toInt64 = 0) (kk : pj_J G mX1_spread (d + 3) 79 [some (.ref 2), some (.int e), some (.int dn), some (.int by_), some (.int md), some (.int mo), some (.int (nI S)), some (.int per), some (.int (nI M)), some (.int (nI k)), some (.int (nI k * by_ - nI k * by_ / e * e)), some (.int (nI k * by_ / e &&& 1)), some (.int (fc_up (nI k * by_ - nI k * by_ / e * e) e (nI k * by_ / e &&& 1) md)), some (.int (nI 0)), none] [] (sx_mk c m o D) 0 0 Q) : pj_J G mX1_spread (d + 3) 39 [some (.ref 2), some (.int e), some (.int dn), some (.int by_), some (.int md), some (.int mo), some (.int (nI S)), some (.int per), some (.int (nI M)), some (.int (nI k)), none, none, none, none, none] [] (sx_mk c m o D) 0 0 Q := by
  refine pj_J.go (oX1_spread G) 3 rfl trivial ?_
  refine pj_J.neg (by rw [Int32.lt_iff_toInt_lt, nI_toInt (by omega), nI_toInt (by omega)]; omega) ?_
  refine pj_J.go (oX1_spread G) 18 rfl ⟨by exact hez, by exact hez, trivial⟩ ?_
  refine pj_J.cal0 kX1_spread_71 (c_X1_up (((nI k) * by_) - ((nI k) * by_) / e * e) e ((((nI k) * by_) / e) &&& (1 : Int32)) md hez2) trivial pj_le0 pj_le0 pj_le0 ?_
  refine pj_J.go (oX1_spread G) 3 rfl trivial ?_
  exact pj_J.drp kk ⟨rfl, rfl, rfl, rfl, rfl, rfl, rfl, rfl, rfl, rfl, rfl, rfl, rfl, rfl, trivial⟩
theorem lz_fc_spO {G : pj_G} {d : Nat} {c : sx_C} {m : sx_M} {o : Nat → Int64} {D : pj_H} {Q : pj_O → pj_H → Prop} (e dn by_ md mo per : Int32) (S M : Nat) (hS : S ≤ 2600) (hM : M ≤ 1000) (q : Q (.inl none) (sx_mk c m o D)) : pj_J G mX1_spread (d + 3) 39 [some (.ref 2), some (.int e), some (.int dn), some (.int by_), some (.int md), some (.int mo), some (.int (nI S)), some (.int per), some (.int (nI M)), some (.int (nI (M + 1))), none, none, none, none, none] [] (sx_mk c m o D) 0 0 Q := by
  refine pj_J.go (oX1_spread G) 3 rfl trivial ?_
  refine pj_J.pos (by rw [Int32.lt_iff_toInt_lt, nI_toInt (by omega), nI_toInt (by omega)]; omega) ?_
  exact pj_vret dX1_spread_209 rfl q
def fc_spO (e by_ md : Int32) (S k : Nat) (u : sx_M) : sx_M := it_up (fun j u => fc_spI (nI k * by_ - nI k * by_ / e * e) (nI k * by_ / e &&& 1) (fc_up (nI k * by_ - nI k * by_ / e * e) e (nI k * by_ / e &&& 1) md) j u) S 0 u
def fc_spTo (e by_ : Int32) (S M : Nat) : Prop := ∀ j, j ≤ M → ∀ k, k < S → vp_in ((nI k / 2 + (nI j * by_ - nI j * by_ / e * e)) * 2 + ((nI k &&& 1) + (nI j * by_ / e &&& 1) &&& 1)) 2600
theorem lp_fc_spO {G : pj_G} {d : Nat} {c : sx_C} {m : sx_M} {o : Nat → Int64} {D : pj_H} {Q : pj_O → pj_H → Prop} (e dn by_ md mo per : Int32) (S M : Nat) (hS : S ≤ 2600) (hM : M ≤ 1000) (hez : ¬ e = 0) (hez2 : ¬ e.toInt64 = 0) (hto : fc_spTo e by_ S M) (q : Q (.inl none) (sx_mk (sx_sM c (it_up (fc_spO e by_ md S) (M + 1) 0 c.1)) m o D)) : pj_J G mX1_spread (d + 3) 39 [some (.ref 2), some (.int e), some (.int dn), some (.int by_), some (.int md), some (.int mo), some (.int (nI S)), some (.int per), some (.int (nI M)), some (.int (nI 0)), none, none, none, none, none] [] (sx_mk c m o D) 0 0 Q := by
  refine pj_for (σ := sx_M) (fun (k : Nat) (u : sx_M) => pj_J G mX1_spread (d + 3) 39 [some (.ref 2), some (.int e), some (.int dn), some (.int by_), some (.int md), some (.int mo), some (.int (nI S)), some (.int per), some (.int (nI M)), some (.int (nI k)), none, none, none, none, none] [] (sx_mk (sx_sM c u) m o D) 0 0 Q) (fc_spO e by_ md S) (fun _ _ => True) (M + 1) (fun k u hk hi => ⟨hi, fun kk => ?_⟩) (M + 1) 0 c.1 (by simp) trivial (fun _ => lz_fc_spO (c := sx_sM c (it_up (fc_spO e by_ md S) (M + 1) 0 c.1)) e dn by_ md mo per S M hS hM q)
  refine lx_fc_spO (c := sx_sM c u) e dn by_ md mo per S M hS hM k (by omega) hez hez2 ?_
  refine pj_for (σ := sx_M) (fun (j : Nat) (x : sx_M) => pj_J G mX1_spread (d + 3) 79 [some (.ref 2), some (.int e), some (.int dn), some (.int by_), some (.int md), some (.int mo), some (.int (nI S)), some (.int per), some (.int (nI M)), some (.int (nI k)), some (.int (nI k * by_ - nI k * by_ / e * e)), some (.int (nI k * by_ / e &&& 1)), some (.int (fc_up (nI k * by_ - nI k * by_ / e * e) e (nI k * by_ / e &&& 1) md)), some (.int (nI j)), none] [] (sx_mk (sx_sM c x) m o D) 0 0 Q) (fun j x => fc_spI (nI k * by_ - nI k * by_ / e * e) (nI k * by_ / e &&& 1) (fc_up (nI k * by_ - nI k * by_ / e * e) e (nI k * by_ / e &&& 1) md) j x) (fun _ _ => True) S (fun j x hj hi => ⟨hi, fun kk => ly_fc_spI (c := sx_sM c x) _ _ _ j (nI k) e dn by_ md mo per S M hS hM hj (hto k (by omega)) (by rw [nI_add1]; exact kk)⟩) S 0 u (by simp) trivial (fun _ => ?_)
  refine lz_fc_spI (c := sx_sM c (fc_spO e by_ md S k u)) _ _ _ (nI k) e dn by_ md mo per S M hS hM ?_
  rw [nI_add1]
  exact kk
theorem c_X1_spread {G : pj_G} {d : Nat} {c : sx_C} {m : sx_M} {o : Nat → Int64} {D : pj_H} (e dn by_ md mo : Int32) (S M : Nat) (hS : S ≤ 2600) (hM : M ≤ 1000) (hez : ¬ e = 0) (hez2 : ¬ e.toInt64 = 0) (eS : (dn * (e - 1) + 1) * 2 = nI S) (eM : (if 2 * e - 1 ≤ mo then 2 * e - 1 else mo) = nI M) (hto : fc_spTo e by_ S M) : pj_Rt G mX1_spread (d + 3) [.ref 2, .int e, .int dn, .int by_, .int md, .int mo] (sx_mk c m o D) 0 0 none (sx_mk (sx_sM c (it_up (fc_spO e by_ md S) (M + 1) 0 c.1)) m o D) := by
  refine pj_Cn.start ?_
  refine pj_J.go (oX1_spread G) 19 rfl trivial ?_
  refine pj_J.ite (fun hc22 => ?_) (fun hc22 => ?_)
  · skip
    refine pj_J.go (oX1_spread G) 6 rfl trivial ?_
    rw [if_pos (show (((2 : Int32) * e) - (1 : Int32)) ≤ mo from hc22)] at eM
    refine pj_J.drop (L' := [some (.ref 2), some (.int e), some (.int dn), some (.int by_), some (.int md), some (.int mo), some (.int (nI S)), some (.int (2 * e)), some (.int (nI M)), some (.int (nI 0)), none, none, none, none, none]) ⟨rfl, rfl, rfl, rfl, rfl, rfl, by rw [← eS], rfl, by rw [← eM], rfl, trivial⟩ ?_
    exact lp_fc_spO e dn by_ md mo (2 * e) S M hS hM hez hez2 hto ⟨rfl, rfl⟩
  · skip
    refine pj_J.go (oX1_spread G) 5 rfl trivial ?_
    rw [if_neg (show ¬ ((((2 : Int32) * e) - (1 : Int32)) ≤ mo) from hc22)] at eM
    refine pj_J.drop (L' := [some (.ref 2), some (.int e), some (.int dn), some (.int by_), some (.int md), some (.int mo), some (.int (nI S)), some (.int (2 * e)), some (.int (nI M)), some (.int (nI 0)), none, none, none, none, none]) ⟨rfl, rfl, rfl, rfl, rfl, rfl, by rw [← eS], rfl, by rw [← eM], rfl, trivial⟩ ?_
    exact lp_fc_spO e dn by_ md mo (2 * e) S M hS hM hez hez2 hto ⟨rfl, rfl⟩
def fc_drA (k : Nat) (u : sx_M) : sx_M := sx_sI (sx_sI u 19 (upd (sx_I u 19) (nI k).toNatClampNeg (-1000 : Int32))) 20 (upd (sx_I u 20) (nI k).toNatClampNeg (1000 : Int32))
theorem ly_fc_drA {G : pj_G} {d : Nat} {c : sx_C} {m : sx_M} {o : Nat → Int64} {D : pj_H} {Q : pj_O → pj_H → Prop} (k : Nat) (rt md n mo wh e : Int32) (S : Nat) (hS : S ≤ 2600) (hk : k < S) (kk : pj_J G mX1_drift (d + 4) 96 [some (.ref 2), some (.int rt), some (.int md), some (.int n), some (.int mo), some (.int wh), some (.int e), some (.int (nI S)), some (.int (nI k + 1)), none, none, none, none] [] (sx_mk (sx_sM c (fc_drA k c.1)) m o D) 0 0 Q) : pj_J G mX1_drift (d + 4) 96 [some (.ref 2), some (.int rt), some (.int md), some (.int n), some (.int mo), some (.int wh), some (.int e), some (.int (nI S)), some (.int (nI k)), none, none, none, none] [] (sx_mk c m o D) 0 0 Q := by
  unfold fc_drA at kk
  refine pj_J.go (oX1_drift G) 3 rfl trivial ?_
  refine pj_J.neg (nI_lt_lit hk (by omega)) ?_
  refine pj_J.go (oX1_drift G) 12 rfl ⟨by exact vp_in_lit (by omega), by exact vp_in_lit (by omega), trivial⟩ ?_
  exact pj_J.drp kk ⟨rfl, rfl, rfl, rfl, rfl, rfl, rfl, rfl, rfl, trivial⟩
def fc_drZ (u : sx_M) : sx_M := sx_sI (sx_sI u 19 (upd (sx_I u 19) (0 : Int32).toNatClampNeg 0)) 20 (upd (sx_I u 20) (0 : Int32).toNatClampNeg 0)
theorem lz_fc_drA {G : pj_G} {d : Nat} {c : sx_C} {m : sx_M} {o : Nat → Int64} {D : pj_H} {Q : pj_O → pj_H → Prop} (rt md n mo wh e : Int32) (S : Nat) (hS : S ≤ 2600)  (kk : pj_J G mX1_drift (d + 4) 146 [some (.ref 2), some (.int rt), some (.int md), some (.int n), some (.int mo), some (.int wh), some (.int e), some (.int (nI S)), some (.int (nI 0)), none, none, none, none] [] (sx_mk (sx_sM c (fc_drZ c.1)) m o D) 0 0 Q) : pj_J G mX1_drift (d + 4) 96 [some (.ref 2), some (.int rt), some (.int md), some (.int n), some (.int mo), some (.int wh), some (.int e), some (.int (nI S)), some (.int (nI S)), none, none, none, none] [] (sx_mk c m o D) 0 0 Q := by
  refine pj_J.go (oX1_drift G) 3 rfl trivial ?_
  refine pj_J.pos (nI_ge_lit (Nat.le_refl _) (by omega)) ?_
  refine pj_J.go (oX1_drift G) 12 rfl ⟨by exact vp_in_lit (k := 0) (by decide), by exact vp_in_lit (k := 0) (by decide), trivial⟩ ?_
  exact pj_J.drp kk ⟨rfl, rfl, rfl, rfl, rfl, rfl, rfl, rfl, rfl, trivial⟩
def fc_drB (k : Nat) (u : sx_M) : sx_M := sx_sI (sx_sI u 21 (upd (sx_I u 21) (nI k).toNatClampNeg (-1000 : Int32))) 22 (upd (sx_I u 22) (nI k).toNatClampNeg (1000 : Int32))
theorem ly_fc_drB {G : pj_G} {d : Nat} {c : sx_C} {m : sx_M} {o : Nat → Int64} {D : pj_H} {Q : pj_O → pj_H → Prop} (k : Nat) (z : Int32) (rt md n mo wh e : Int32) (S : Nat) (hS : S ≤ 2600) (hk : k < S) (kk : pj_J G mX1_drift (d + 4) 155 [some (.ref 2), some (.int rt), some (.int md), some (.int n), some (.int mo), some (.int wh), some (.int e), some (.int (nI S)), some (.int z), some (.int (nI k + 1)), none, none, none] [] (sx_mk (sx_sM c (fc_drB k c.1)) m o D) 0 0 Q) : pj_J G mX1_drift (d + 4) 155 [some (.ref 2), some (.int rt), some (.int md), some (.int n), some (.int mo), some (.int wh), some (.int e), some (.int (nI S)), some (.int z), some (.int (nI k)), none, none, none] [] (sx_mk c m o D) 0 0 Q := by
  unfold fc_drB at kk
  refine pj_J.go (oX1_drift G) 3 rfl trivial ?_
  refine pj_J.neg (nI_lt_lit hk (by omega)) ?_
  refine pj_J.go (oX1_drift G) 12 rfl ⟨by exact vp_in_lit (by omega), by exact vp_in_lit (by omega), trivial⟩ ?_
  exact pj_J.drp kk ⟨rfl, rfl, rfl, rfl, rfl, rfl, rfl, rfl, rfl, rfl, trivial⟩
def fc_drC (k : Nat) (u : sx_M) : sx_M := sx_sI (sx_sI u 19 (upd (sx_I u 19) (nI k).toNatClampNeg (sx_I u 21 (nI k).toNatClampNeg))) 20 (upd (sx_I u 20) (nI k).toNatClampNeg (sx_I u 22 (nI k).toNatClampNeg))
theorem ly_fc_drC {G : pj_G} {d : Nat} {c : sx_C} {m : sx_M} {o : Nat → Int64} {D : pj_H} {Q : pj_O → pj_H → Prop} (k : Nat) (z : Int32) (rt md n mo wh e : Int32) (S : Nat) (hS : S ≤ 2600) (hk : k < S) (kk : pj_J G mX1_drift (d + 4) 208 [some (.ref 2), some (.int rt), some (.int md), some (.int n), some (.int mo), some (.int wh), some (.int e), some (.int (nI S)), some (.int z), some (.int (nI k + 1)), none, none, none] [] (sx_mk (sx_sM c (fc_drC k c.1)) m o D) 0 0 Q) : pj_J G mX1_drift (d + 4) 208 [some (.ref 2), some (.int rt), some (.int md), some (.int n), some (.int mo), some (.int wh), some (.int e), some (.int (nI S)), some (.int z), some (.int (nI k)), none, none, none] [] (sx_mk c m o D) 0 0 Q := by
  unfold fc_drC at kk
  refine pj_J.go (oX1_drift G) 3 rfl trivial ?_
  refine pj_J.neg (nI_lt_lit hk (by omega)) ?_
  refine pj_J.go (oX1_drift G) 18 rfl ⟨by exact vp_in_lit (by omega), by exact vp_in_lit (by omega), by exact vp_in_lit (by omega), by exact vp_in_lit (by omega), trivial⟩ ?_
  exact pj_J.drp kk ⟨rfl, rfl, rfl, rfl, rfl, rfl, rfl, rfl, rfl, rfl, trivial⟩
theorem lx_fc_dr {G : pj_G} {d : Nat} {c : sx_C} {m : sx_M} {o : Nat → Int64} {D : pj_H} {Q : pj_O → pj_H → Prop} (rt md n mo wh e : Int32) (S : Nat) (hS : S ≤ 2600) (N k : Nat) (hN : N ≤ 12) (en : n = nI N) (hk : k < N) (kk : pj_J G mX1_drift (d + 4) 155 [some (.ref 2), some (.int rt), some (.int md), some (.int n), some (.int mo), some (.int wh), some (.int e), some (.int (nI S)), some (.int (nI k)), some (.int (nI 0)), none, none, none] [] (sx_mk c m o D) 0 0 Q) : pj_J G mX1_drift (d + 4) 146 [some (.ref 2), some (.int rt), some (.int md), some (.int n), some (.int mo), some (.int wh), some (.int e), some (.int (nI S)), some (.int (nI k)), none, none, none, none] [] (sx_mk c m o D) 0 0 Q := by
  refine pj_J.go (oX1_drift G) 3 rfl trivial ?_
  refine pj_J.neg (by rw [en]; exact nI_lt_lit hk (by omega)) ?_
  refine pj_J.go (oX1_drift G) 2 rfl trivial ?_
  exact pj_J.drp kk ⟨rfl, rfl, rfl, rfl, rfl, rfl, rfl, rfl, rfl, rfl, trivial⟩
theorem lz_fc_drC {G : pj_G} {d : Nat} {c : sx_C} {m : sx_M} {o : Nat → Int64} {D : pj_H} {Q : pj_O → pj_H → Prop} (z : Int32) (rt md n mo wh e : Int32) (S : Nat) (hS : S ≤ 2600)  (kk : pj_J G mX1_drift (d + 4) 146 [some (.ref 2), some (.int rt), some (.int md), some (.int n), some (.int mo), some (.int wh), some (.int e), some (.int (nI S)), some (.int (z + 1)), none, none, none, none] [] (sx_mk c m o D) 0 0 Q) : pj_J G mX1_drift (d + 4) 208 [some (.ref 2), some (.int rt), some (.int md), some (.int n), some (.int mo), some (.int wh), some (.int e), some (.int (nI S)), some (.int z), some (.int (nI S)), none, none, none] [] (sx_mk c m o D) 0 0 Q := by
  refine pj_J.go (oX1_drift G) 3 rfl trivial ?_
  refine pj_J.pos (nI_ge_lit (Nat.le_refl _) (by omega)) ?_
  refine pj_J.go (oX1_drift G) 2 rfl trivial ?_
  exact pj_J.drp kk ⟨rfl, rfl, rfl, rfl, rfl, rfl, rfl, rfl, rfl, trivial⟩
theorem lz_fc_drB {G : pj_G} {d : Nat} {c : sx_C} {m : sx_M} {o : Nat → Int64} {D : pj_H} {Q : pj_O → pj_H → Prop} (z : Int32) (rt md n mo wh e : Int32) (S : Nat) (hS : S ≤ 2600) (hrt : vp_in rt 8) (c1 : sx_C) (cs : pj_Rt G mX1_spread (d + 3) [.ref 2, .int e, .int z, .int (sx_I c.1 0 rt.toNatClampNeg), .int md, .int mo] (sx_mk c m o D) 0 0 none (sx_mk c1 m o D)) (kk : pj_J G mX1_drift (d + 4) 208 [some (.ref 2), some (.int rt), some (.int md), some (.int n), some (.int mo), some (.int wh), some (.int e), some (.int (nI S)), some (.int z), some (.int (nI 0)), none, none, none] [] (sx_mk c1 m o D) 0 0 Q) : pj_J G mX1_drift (d + 4) 155 [some (.ref 2), some (.int rt), some (.int md), some (.int n), some (.int mo), some (.int wh), some (.int e), some (.int (nI S)), some (.int z), some (.int (nI S)), none, none, none] [] (sx_mk c m o D) 0 0 Q := by
  refine pj_J.go (oX1_drift G) 3 rfl trivial ?_
  refine pj_J.pos (nI_ge_lit (Nat.le_refl _) (by omega)) ?_
  refine pj_J.go (oX1_drift G) 9 rfl ⟨by exact hrt, trivial⟩ ?_
  refine pj_J.cal0 kX1_drift_202 (cs) ⟨_, _, _, rfl, rfl⟩ pj_le0 pj_le0 pj_le0 ?_
  refine pj_J.go (oX1_drift G) 2 rfl trivial ?_
  exact pj_J.drp kk ⟨rfl, rfl, rfl, rfl, rfl, rfl, rfl, rfl, rfl, rfl, trivial⟩
theorem lz_fc_dr {G : pj_G} {d : Nat} {c : sx_C} {m : sx_M} {o : Nat → Int64} {D : pj_H} {Q : pj_O → pj_H → Prop} (rt md n mo wh e : Int32) (S : Nat) (hS : S ≤ 2600) (N : Nat) (hN : N ≤ 12) (en : n = nI N) (kk : pj_J G mX1_drift (d + 4) 274 [some (.ref 2), some (.int rt), some (.int md), some (.int n), some (.int mo), some (.int wh), some (.int e), some (.int (nI S)), some (.int (if wh = 0 then -1000 else 1000)), some (.int (nI 0)), none, none, none] [] (sx_mk c m o D) 0 0 Q) : pj_J G mX1_drift (d + 4) 146 [some (.ref 2), some (.int rt), some (.int md), some (.int n), some (.int mo), some (.int wh), some (.int e), some (.int (nI S)), some (.int (nI N)), none, none, none, none] [] (sx_mk c m o D) 0 0 Q := by
  refine pj_J.go (oX1_drift G) 3 rfl trivial ?_
  refine pj_J.pos (by rw [en]; exact nI_ge_lit (Nat.le_refl _) (by omega)) ?_
  refine pj_J.go (oX1_drift G) 2 rfl trivial ?_
  refine pj_J.ite (fun hc257 => ?_) (fun hc257 => ?_)
  · skip
    refine pj_J.go (oX1_drift G) 5 rfl trivial ?_
    rw [if_pos hc257] at kk
    exact pj_J.drp kk ⟨rfl, rfl, rfl, rfl, rfl, rfl, rfl, rfl, rfl, rfl, trivial⟩
  · skip
    refine pj_J.go (oX1_drift G) 4 rfl trivial ?_
    rw [if_neg hc257] at kk
    exact pj_J.drp kk ⟨rfl, rfl, rfl, rfl, rfl, rfl, rfl, rfl, rfl, rfl, trivial⟩
def fc_drD (md wh e : Int32) (k : Nat) (b : Int32) (u : sx_M) : Int32 := if (sx_I u 19 (nI k).toNatClampNeg) = (-1000 : Int32) then b else (if wh = (0 : Int32) then (if ((sx_I u 19 (nI k).toNatClampNeg) - ((((nI k) / (2 : Int32)) / e) + (fc_up (((nI k) / (2 : Int32)) - ((nI k) / (2 : Int32)) / e * e) e ((((nI k) &&& (1 : Int32)) + (((nI k) / (2 : Int32)) / e)) &&& (1 : Int32)) md))) ≤ b then (if wh = (1 : Int32) then (if b ≤ ((sx_I u 20 (nI k).toNatClampNeg) - ((((nI k) / (2 : Int32)) / e) + (fc_up (((nI k) / (2 : Int32)) - ((nI k) / (2 : Int32)) / e * e) e ((((nI k) &&& (1 : Int32)) + (((nI k) / (2 : Int32)) / e)) &&& (1 : Int32)) md))) then b else ((sx_I u 20 (nI k).toNatClampNeg) - ((((nI k) / (2 : Int32)) / e) + (fc_up (((nI k) / (2 : Int32)) - ((nI k) / (2 : Int32)) / e * e) e ((((nI k) &&& (1 : Int32)) + (((nI k) / (2 : Int32)) / e)) &&& (1 : Int32)) md)))) else b) else (if wh = (1 : Int32) then (if ((sx_I u 19 (nI k).toNatClampNeg) - ((((nI k) / (2 : Int32)) / e) + (fc_up (((nI k) / (2 : Int32)) - ((nI k) / (2 : Int32)) / e * e) e ((((nI k) &&& (1 : Int32)) + (((nI k) / (2 : Int32)) / e)) &&& (1 : Int32)) md))) ≤ ((sx_I u 20 (nI k).toNatClampNeg) - ((((nI k) / (2 : Int32)) / e) + (fc_up (((nI k) / (2 : Int32)) - ((nI k) / (2 : Int32)) / e * e) e ((((nI k) &&& (1 : Int32)) + (((nI k) / (2 : Int32)) / e)) &&& (1 : Int32)) md))) then ((sx_I u 19 (nI k).toNatClampNeg) - ((((nI k) / (2 : Int32)) / e) + (fc_up (((nI k) / (2 : Int32)) - ((nI k) / (2 : Int32)) / e * e) e ((((nI k) &&& (1 : Int32)) + (((nI k) / (2 : Int32)) / e)) &&& (1 : Int32)) md))) else ((sx_I u 20 (nI k).toNatClampNeg) - ((((nI k) / (2 : Int32)) / e) + (fc_up (((nI k) / (2 : Int32)) - ((nI k) / (2 : Int32)) / e * e) e ((((nI k) &&& (1 : Int32)) + (((nI k) / (2 : Int32)) / e)) &&& (1 : Int32)) md)))) else ((sx_I u 19 (nI k).toNatClampNeg) - ((((nI k) / (2 : Int32)) / e) + (fc_up (((nI k) / (2 : Int32)) - ((nI k) / (2 : Int32)) / e * e) e ((((nI k) &&& (1 : Int32)) + (((nI k) / (2 : Int32)) / e)) &&& (1 : Int32)) md))))) else (if wh = (1 : Int32) then (if b ≤ ((sx_I u 20 (nI k).toNatClampNeg) - ((((nI k) / (2 : Int32)) / e) + (fc_up (((nI k) / (2 : Int32)) - ((nI k) / (2 : Int32)) / e * e) e ((((nI k) &&& (1 : Int32)) + (((nI k) / (2 : Int32)) / e)) &&& (1 : Int32)) md))) then b else ((sx_I u 20 (nI k).toNatClampNeg) - ((((nI k) / (2 : Int32)) / e) + (fc_up (((nI k) / (2 : Int32)) - ((nI k) / (2 : Int32)) / e * e) e ((((nI k) &&& (1 : Int32)) + (((nI k) / (2 : Int32)) / e)) &&& (1 : Int32)) md)))) else b))
theorem ly_fc_drD {G : pj_G} {d : Nat} {c : sx_C} {m : sx_M} {o : Nat → Int64} {D : pj_H} {Q : pj_O → pj_H → Prop} (md wh e : Int32) (k : Nat) (b : Int32) (rt n mo : Int32) (S : Nat) (hS : S ≤ 2600) (hk : k < S) (hez : ¬ e = 0) (hez2 : ¬ e.toInt64 = 0) (kk : pj_J G mX1_drift (d + 4) 274 [some (.ref 2), some (.int rt), some (.int md), some (.int n), some (.int mo), some (.int wh), some (.int e), some (.int (nI S)), some (.int (fc_drD md wh e k b c.1)), some (.int (nI k + 1)), none, none, none] [] (sx_mk c m o D) 0 0 Q) : pj_J G mX1_drift (d + 4) 274 [some (.ref 2), some (.int rt), some (.int md), some (.int n), some (.int mo), some (.int wh), some (.int e), some (.int (nI S)), some (.int b), some (.int (nI k)), none, none, none] [] (sx_mk c m o D) 0 0 Q := by
  unfold fc_drD at kk
  refine pj_J.go (oX1_drift G) 3 rfl trivial ?_
  refine pj_J.neg (nI_lt_lit hk (by omega)) ?_
  refine pj_J.go (oX1_drift G) 6 rfl ⟨by exact vp_in_lit (by omega), trivial⟩ ?_
  refine pj_J.ite (fun hc291 => ?_) (fun hc291 => ?_)
  · skip
    refine pj_J.go (oX1_drift G) 3 rfl trivial ?_
    rw [if_pos (show (sx_I c.1 19 (nI k).toNatClampNeg) = (-1000 : Int32) from hc291)] at kk
    exact pj_J.drp kk ⟨rfl, rfl, rfl, rfl, rfl, rfl, rfl, rfl, rfl, rfl, trivial⟩
  · skip
    refine pj_J.go (oX1_drift G) 23 rfl ⟨by decide, by exact hez, by exact hez, by exact hez, trivial⟩ ?_
    refine pj_J.cal0 kX1_drift_332 (c_X1_up (((nI k) / (2 : Int32)) - ((nI k) / (2 : Int32)) / e * e) e ((((nI k) &&& (1 : Int32)) + (((nI k) / (2 : Int32)) / e)) &&& (1 : Int32)) md hez2) trivial pj_le0 pj_le0 pj_le0 ?_
    refine pj_J.go (oX1_drift G) 4 rfl trivial ?_
    refine pj_J.ite (fun hc340 => ?_) (fun hc340 => ?_)
    · skip
      refine pj_J.go (oX1_drift G) 8 rfl ⟨by exact vp_in_lit (by omega), trivial⟩ ?_
      refine pj_J.ite (fun hc355 => ?_) (fun hc355 => ?_)
      · skip
        refine pj_J.go (oX1_drift G) 3 rfl trivial ?_
        refine pj_J.ite (fun hc373 => ?_) (fun hc373 => ?_)
        · skip
          refine pj_J.go (oX1_drift G) 8 rfl ⟨by exact vp_in_lit (by omega), trivial⟩ ?_
          refine pj_J.ite (fun hc388 => ?_) (fun hc388 => ?_)
          · skip
            refine pj_J.go (oX1_drift G) 2 rfl trivial ?_
            rw [if_neg (show ¬ ((sx_I c.1 19 (nI k).toNatClampNeg) = (-1000 : Int32)) from hc291), if_pos (show wh = (0 : Int32) from hc340), if_pos (show ((sx_I c.1 19 (nI k).toNatClampNeg) - ((((nI k) / (2 : Int32)) / e) + (fc_up (((nI k) / (2 : Int32)) - ((nI k) / (2 : Int32)) / e * e) e ((((nI k) &&& (1 : Int32)) + (((nI k) / (2 : Int32)) / e)) &&& (1 : Int32)) md))) ≤ b from hc355), if_pos (show wh = (1 : Int32) from hc373), if_pos (show b ≤ ((sx_I c.1 20 (nI k).toNatClampNeg) - ((((nI k) / (2 : Int32)) / e) + (fc_up (((nI k) / (2 : Int32)) - ((nI k) / (2 : Int32)) / e * e) e ((((nI k) &&& (1 : Int32)) + (((nI k) / (2 : Int32)) / e)) &&& (1 : Int32)) md))) from hc388)] at kk
            exact pj_J.drp kk ⟨rfl, rfl, rfl, rfl, rfl, rfl, rfl, rfl, rfl, rfl, trivial⟩
          · skip
            refine pj_J.go (oX1_drift G) 9 rfl ⟨by exact vp_in_lit (by omega), trivial⟩ ?_
            rw [if_neg (show ¬ ((sx_I c.1 19 (nI k).toNatClampNeg) = (-1000 : Int32)) from hc291), if_pos (show wh = (0 : Int32) from hc340), if_pos (show ((sx_I c.1 19 (nI k).toNatClampNeg) - ((((nI k) / (2 : Int32)) / e) + (fc_up (((nI k) / (2 : Int32)) - ((nI k) / (2 : Int32)) / e * e) e ((((nI k) &&& (1 : Int32)) + (((nI k) / (2 : Int32)) / e)) &&& (1 : Int32)) md))) ≤ b from hc355), if_pos (show wh = (1 : Int32) from hc373), if_neg (show ¬ (b ≤ ((sx_I c.1 20 (nI k).toNatClampNeg) - ((((nI k) / (2 : Int32)) / e) + (fc_up (((nI k) / (2 : Int32)) - ((nI k) / (2 : Int32)) / e * e) e ((((nI k) &&& (1 : Int32)) + (((nI k) / (2 : Int32)) / e)) &&& (1 : Int32)) md)))) from hc388)] at kk
            exact pj_J.drp kk ⟨rfl, rfl, rfl, rfl, rfl, rfl, rfl, rfl, rfl, rfl, trivial⟩
        · skip
          refine pj_J.go (oX1_drift G) 2 rfl trivial ?_
          rw [if_neg (show ¬ ((sx_I c.1 19 (nI k).toNatClampNeg) = (-1000 : Int32)) from hc291), if_pos (show wh = (0 : Int32) from hc340), if_pos (show ((sx_I c.1 19 (nI k).toNatClampNeg) - ((((nI k) / (2 : Int32)) / e) + (fc_up (((nI k) / (2 : Int32)) - ((nI k) / (2 : Int32)) / e * e) e ((((nI k) &&& (1 : Int32)) + (((nI k) / (2 : Int32)) / e)) &&& (1 : Int32)) md))) ≤ b from hc355), if_neg (show ¬ (wh = (1 : Int32)) from hc373)] at kk
          exact pj_J.drp kk ⟨rfl, rfl, rfl, rfl, rfl, rfl, rfl, rfl, rfl, rfl, trivial⟩
      · skip
        refine pj_J.go (oX1_drift G) 10 rfl ⟨by exact vp_in_lit (by omega), trivial⟩ ?_
        refine pj_J.ite (fun hc373 => ?_) (fun hc373 => ?_)
        · skip
          refine pj_J.go (oX1_drift G) 8 rfl ⟨by exact vp_in_lit (by omega), trivial⟩ ?_
          refine pj_J.ite (fun hc388 => ?_) (fun hc388 => ?_)
          · skip
            refine pj_J.go (oX1_drift G) 2 rfl trivial ?_
            rw [if_neg (show ¬ ((sx_I c.1 19 (nI k).toNatClampNeg) = (-1000 : Int32)) from hc291), if_pos (show wh = (0 : Int32) from hc340), if_neg (show ¬ (((sx_I c.1 19 (nI k).toNatClampNeg) - ((((nI k) / (2 : Int32)) / e) + (fc_up (((nI k) / (2 : Int32)) - ((nI k) / (2 : Int32)) / e * e) e ((((nI k) &&& (1 : Int32)) + (((nI k) / (2 : Int32)) / e)) &&& (1 : Int32)) md))) ≤ b) from hc355), if_pos (show wh = (1 : Int32) from hc373), if_pos (show ((sx_I c.1 19 (nI k).toNatClampNeg) - ((((nI k) / (2 : Int32)) / e) + (fc_up (((nI k) / (2 : Int32)) - ((nI k) / (2 : Int32)) / e * e) e ((((nI k) &&& (1 : Int32)) + (((nI k) / (2 : Int32)) / e)) &&& (1 : Int32)) md))) ≤ ((sx_I c.1 20 (nI k).toNatClampNeg) - ((((nI k) / (2 : Int32)) / e) + (fc_up (((nI k) / (2 : Int32)) - ((nI k) / (2 : Int32)) / e * e) e ((((nI k) &&& (1 : Int32)) + (((nI k) / (2 : Int32)) / e)) &&& (1 : Int32)) md))) from hc388)] at kk
            exact pj_J.drp kk ⟨rfl, rfl, rfl, rfl, rfl, rfl, rfl, rfl, rfl, rfl, trivial⟩
          · skip
            refine pj_J.go (oX1_drift G) 9 rfl ⟨by exact vp_in_lit (by omega), trivial⟩ ?_
            rw [if_neg (show ¬ ((sx_I c.1 19 (nI k).toNatClampNeg) = (-1000 : Int32)) from hc291), if_pos (show wh = (0 : Int32) from hc340), if_neg (show ¬ (((sx_I c.1 19 (nI k).toNatClampNeg) - ((((nI k) / (2 : Int32)) / e) + (fc_up (((nI k) / (2 : Int32)) - ((nI k) / (2 : Int32)) / e * e) e ((((nI k) &&& (1 : Int32)) + (((nI k) / (2 : Int32)) / e)) &&& (1 : Int32)) md))) ≤ b) from hc355), if_pos (show wh = (1 : Int32) from hc373), if_neg (show ¬ (((sx_I c.1 19 (nI k).toNatClampNeg) - ((((nI k) / (2 : Int32)) / e) + (fc_up (((nI k) / (2 : Int32)) - ((nI k) / (2 : Int32)) / e * e) e ((((nI k) &&& (1 : Int32)) + (((nI k) / (2 : Int32)) / e)) &&& (1 : Int32)) md))) ≤ ((sx_I c.1 20 (nI k).toNatClampNeg) - ((((nI k) / (2 : Int32)) / e) + (fc_up (((nI k) / (2 : Int32)) - ((nI k) / (2 : Int32)) / e * e) e ((((nI k) &&& (1 : Int32)) + (((nI k) / (2 : Int32)) / e)) &&& (1 : Int32)) md)))) from hc388)] at kk
            exact pj_J.drp kk ⟨rfl, rfl, rfl, rfl, rfl, rfl, rfl, rfl, rfl, rfl, trivial⟩
        · skip
          refine pj_J.go (oX1_drift G) 2 rfl trivial ?_
          rw [if_neg (show ¬ ((sx_I c.1 19 (nI k).toNatClampNeg) = (-1000 : Int32)) from hc291), if_pos (show wh = (0 : Int32) from hc340), if_neg (show ¬ (((sx_I c.1 19 (nI k).toNatClampNeg) - ((((nI k) / (2 : Int32)) / e) + (fc_up (((nI k) / (2 : Int32)) - ((nI k) / (2 : Int32)) / e * e) e ((((nI k) &&& (1 : Int32)) + (((nI k) / (2 : Int32)) / e)) &&& (1 : Int32)) md))) ≤ b) from hc355), if_neg (show ¬ (wh = (1 : Int32)) from hc373)] at kk
          exact pj_J.drp kk ⟨rfl, rfl, rfl, rfl, rfl, rfl, rfl, rfl, rfl, rfl, trivial⟩
    · skip
      refine pj_J.go (oX1_drift G) 3 rfl trivial ?_
      refine pj_J.ite (fun hc373 => ?_) (fun hc373 => ?_)
      · skip
        refine pj_J.go (oX1_drift G) 8 rfl ⟨by exact vp_in_lit (by omega), trivial⟩ ?_
        refine pj_J.ite (fun hc388 => ?_) (fun hc388 => ?_)
        · skip
          refine pj_J.go (oX1_drift G) 2 rfl trivial ?_
          rw [if_neg (show ¬ ((sx_I c.1 19 (nI k).toNatClampNeg) = (-1000 : Int32)) from hc291), if_neg (show ¬ (wh = (0 : Int32)) from hc340), if_pos (show wh = (1 : Int32) from hc373), if_pos (show b ≤ ((sx_I c.1 20 (nI k).toNatClampNeg) - ((((nI k) / (2 : Int32)) / e) + (fc_up (((nI k) / (2 : Int32)) - ((nI k) / (2 : Int32)) / e * e) e ((((nI k) &&& (1 : Int32)) + (((nI k) / (2 : Int32)) / e)) &&& (1 : Int32)) md))) from hc388)] at kk
          exact pj_J.drp kk ⟨rfl, rfl, rfl, rfl, rfl, rfl, rfl, rfl, rfl, rfl, trivial⟩
        · skip
          refine pj_J.go (oX1_drift G) 9 rfl ⟨by exact vp_in_lit (by omega), trivial⟩ ?_
          rw [if_neg (show ¬ ((sx_I c.1 19 (nI k).toNatClampNeg) = (-1000 : Int32)) from hc291), if_neg (show ¬ (wh = (0 : Int32)) from hc340), if_pos (show wh = (1 : Int32) from hc373), if_neg (show ¬ (b ≤ ((sx_I c.1 20 (nI k).toNatClampNeg) - ((((nI k) / (2 : Int32)) / e) + (fc_up (((nI k) / (2 : Int32)) - ((nI k) / (2 : Int32)) / e * e) e ((((nI k) &&& (1 : Int32)) + (((nI k) / (2 : Int32)) / e)) &&& (1 : Int32)) md)))) from hc388)] at kk
          exact pj_J.drp kk ⟨rfl, rfl, rfl, rfl, rfl, rfl, rfl, rfl, rfl, rfl, trivial⟩
      · skip
        refine pj_J.go (oX1_drift G) 2 rfl trivial ?_
        rw [if_neg (show ¬ ((sx_I c.1 19 (nI k).toNatClampNeg) = (-1000 : Int32)) from hc291), if_neg (show ¬ (wh = (0 : Int32)) from hc340), if_neg (show ¬ (wh = (1 : Int32)) from hc373)] at kk
        exact pj_J.drp kk ⟨rfl, rfl, rfl, rfl, rfl, rfl, rfl, rfl, rfl, rfl, trivial⟩
theorem lz_fc_drD {G : pj_G} {d : Nat} {c : sx_C} {m : sx_M} {o : Nat → Int64} {D : pj_H} {Q : pj_O → pj_H → Prop} (rt md n mo wh e : Int32) (S : Nat) (hS : S ≤ 2600) (b : Int32) (q : Q (.inl (some (.int b))) (sx_mk c m o D)) : pj_J G mX1_drift (d + 4) 274 [some (.ref 2), some (.int rt), some (.int md), some (.int n), some (.int mo), some (.int wh), some (.int e), some (.int (nI S)), some (.int b), some (.int (nI S)), none, none, none] [] (sx_mk c m o D) 0 0 Q := by
  refine pj_J.go (oX1_drift G) 3 rfl trivial ?_
  refine pj_J.pos (nI_ge_lit (Nat.le_refl _) (by omega)) ?_
  refine pj_J.go (oX1_drift G) 1 rfl trivial ?_
  exact pj_iret dX1_drift_411 rfl q
