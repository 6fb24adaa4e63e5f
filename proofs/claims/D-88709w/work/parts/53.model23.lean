/-! PennyJudgeModel: drift (by tools/gen_n5.py) -/
set_option maxRecDepth 100000
theorem lN_dv {a e : Nat} (ha : a < 2 ^ 31) (h0 : 0 < e) (he : e < 2 ^ 31) : lN a / lN e = lN (a / e) := by
  have h : a / e < 2 ^ 31 := Nat.lt_of_le_of_lt (Nat.div_le_self _ _) ha
  apply Int64.toInt_inj.mp
  rw [Int64.toInt_div, lN_toInt ha, lN_toInt he, lN_toInt h]
  have e1 : ((a : Int).tdiv (e : Int)) = ((a / e : Nat) : Int) := (Int.ofNat_tdiv a e).symm
  rw [e1]
  generalize a / e = w at h
  exact Int.bmod_eq_of_le (by omega) (by omega)
theorem fm_drX {x p : Int32} {k a M : Nat} (hx : x = nI k) (hp : p = nI a) (hk : k ≤ 1000) (ha : a ≤ 10000) (h1 : 1 ≤ M) (h2 : M ≤ 200) : (x.toInt64 * p.toInt64 - x.toInt64 * p.toInt64 / (nI M).toInt64 * (nI M).toInt64).toInt32 = nI (k * a % M) := by
  subst hx; subst hp
  have hka : k * a ≤ 1000 * 10000 := Nat.mul_le_mul hk ha
  have e1 : (nI k).toInt64 = lN k := nI_l (by omega)
  have e2 : (nI a).toInt64 = lN a := nI_l (by omega)
  have e3 : (nI M).toInt64 = lN M := nI_l (by omega)
  rw [e1, e2, e3, lN_mul, lN_dv (by omega) (by omega) (by omega), lN_mul, lN_sub (Nat.div_mul_le_self _ _)]
  have := Nat.div_add_mod (k * a) M
  rw [Nat.mul_comm] at this
  rw [show k * a - k * a / M * M = k * a % M by omega]
  exact lN_i _
def fm_drA (k : Nat) (m : sx_M) : sx_M := if (nI k) = (0 : Int32) then (sx_sL (sx_sI m 50 (upd (sx_I m 50) (nI k).toNatClampNeg (vp_nar .boolean (0 : Int32)))) 48 (vp_updL (sx_L m 48) (nI k).toNatClampNeg (0 : Int64))) else (sx_sL (sx_sI m 50 (upd (sx_I m 50) (nI k).toNatClampNeg (vp_nar .boolean (0 : Int32)))) 48 (vp_updL (sx_L m 48) (nI k).toNatClampNeg (-1099511627776 : Int64)))
theorem ly_fm_drA {G : pj_G} {d : Nat} {c : sx_C} {m : sx_M} {o : Nat → Int64} {D : pj_H} {Q : pj_O → pj_H → Prop}  (rt md n most wh g p q mm : Int32) (sg : Int64) (M : Nat) (hM : M ≤ 200) (hmm : mm = nI M) (k : Nat) (hk : k < M)  (kk : pj_J G mX4_drift (d + 2) 119 [some (.ref 59), some (.int rt), some (.int md), some (.int n), some (.int most), some (.int wh), some (.int g), some (.int p), some (.int q), some (.int mm), some (.long sg), none, some (.int (nI k + 1)), none, none, none, none, none] [] (sx_mk c (fm_drA k m) o D) 0 0 Q) : pj_J G mX4_drift (d + 2) 119 [some (.ref 59), some (.int rt), some (.int md), some (.int n), some (.int most), some (.int wh), some (.int g), some (.int p), some (.int q), some (.int mm), some (.long sg), none, some (.int (nI k)), none, none, none, none, none] [] (sx_mk c m o D) 0 0 Q := by
  unfold fm_drA at kk
  refine pj_J.go (oX4_drift G) 3 rfl trivial ?_
  refine pj_J.neg (by rw [hmm]; exact nI_lt_lit hk (by omega)) ?_
  refine pj_J.go (oX4_drift G) 10 rfl ⟨by exact vp_in_lit (by omega) (by decide), trivial⟩ ?_
  refine pj_J.ite (fun hc142 => ?_) (fun hc142 => ?_)
  · skip
    refine pj_J.go (oX4_drift G) 5 rfl ⟨by exact vp_in_lit (by omega) (by decide), trivial⟩ ?_
    rw [if_pos (show (nI k) = (0 : Int32) from hc142)] at kk
    exact pj_J.drp kk ⟨rfl, rfl, rfl, rfl, rfl, rfl, rfl, rfl, rfl, rfl, rfl, rfl, trivial⟩
  · skip
    refine pj_J.go (oX4_drift G) 4 rfl ⟨by exact vp_in_lit (by omega) (by decide), trivial⟩ ?_
    rw [if_neg (show ¬ ((nI k) = (0 : Int32)) from hc142)] at kk
    exact pj_J.drp kk ⟨rfl, rfl, rfl, rfl, rfl, rfl, rfl, rfl, rfl, rfl, rfl, rfl, trivial⟩
theorem lz_drA {G : pj_G} {d : Nat} {c : sx_C} {m : sx_M} {o : Nat → Int64} {D : pj_H} {Q : pj_O → pj_H → Prop} (rt md n most wh g p q mm : Int32) (sg : Int64) (M : Nat) (hM : M ≤ 200) (hmm : mm = nI M)  (kk : pj_J G mX4_drift (d + 2) 162 [some (.ref 59), some (.int rt), some (.int md), some (.int n), some (.int most), some (.int wh), some (.int g), some (.int p), some (.int q), some (.int mm), some (.long sg), none, some (.int (nI 0)), none, none, none, none, none] [] (sx_mk c m o D) 0 0 Q) : pj_J G mX4_drift (d + 2) 119 [some (.ref 59), some (.int rt), some (.int md), some (.int n), some (.int most), some (.int wh), some (.int g), some (.int p), some (.int q), some (.int mm), some (.long sg), none, some (.int (nI M)), none, none, none, none, none] [] (sx_mk c m o D) 0 0 Q := by
  refine pj_J.go (oX4_drift G) 3 rfl trivial ?_
  refine pj_J.pos (by rw [hmm]; exact nI_ge_lit (Nat.le_refl _) (by omega)) ?_
  refine pj_J.go (oX4_drift G) 2 rfl trivial ?_
  exact pj_J.drp kk ⟨rfl, rfl, rfl, rfl, rfl, rfl, rfl, rfl, rfl, rfl, rfl, rfl, trivial⟩
theorem fm_nz64 {M : Nat} (h1 : 1 ≤ M) (h2 : M < 2 ^ 31) : ¬ (nI M).toInt64 = 0 := by
  rw [nI_l (by omega)]
  intro e
  have := congrArg Int64.toInt e
  rw [lN_toInt (by omega)] at this
  have h0 : (0 : Int64).toInt = 0 := rfl
  omega
theorem fm_nz32 {M : Nat} (h1 : 1 ≤ M) (h2 : M < 2 ^ 31) : ¬ nI M = 0 := by
  intro e
  have := congrArg Int32.toInt e
  rw [nI_toInt (by omega)] at this
  have h0 : (0 : Int32).toInt = 0 := rfl
  omega
def fm_drB (p mm : Int32) (k : Nat) (m : sx_M) : sx_M := sx_sI m 50 (upd (sx_I m 50) ((((nI k).toInt64 * p.toInt64) - ((nI k).toInt64 * p.toInt64) / mm.toInt64 * mm.toInt64).toInt32).toNatClampNeg (vp_nar .boolean (1 : Int32)))
theorem ly_fm_drB {G : pj_G} {d : Nat} {c : sx_C} {m : sx_M} {o : Nat → Int64} {D : pj_H} {Q : pj_O → pj_H → Prop}  (rt md n most wh g p q mm : Int32) (sg : Int64) (M : Nat) (hM : M ≤ 200) (hmm : mm = nI M) (a k : Nat) (ha : a ≤ 10000) (hp : p = nI a) (h1 : 1 ≤ M) (X : Nat) (hX : X ≤ 1000) (hm : most = nI X) (hk : k ≤ X) (kk : pj_J G mX4_drift (d + 2) 162 [some (.ref 59), some (.int rt), some (.int md), some (.int n), some (.int most), some (.int wh), some (.int g), some (.int p), some (.int q), some (.int mm), some (.long sg), none, some (.int (nI k + 1)), none, none, none, none, none] [] (sx_mk c (fm_drB p mm k m) o D) 0 0 Q) : pj_J G mX4_drift (d + 2) 162 [some (.ref 59), some (.int rt), some (.int md), some (.int n), some (.int most), some (.int wh), some (.int g), some (.int p), some (.int q), some (.int mm), some (.long sg), none, some (.int (nI k)), none, none, none, none, none] [] (sx_mk c m o D) 0 0 Q := by
  unfold fm_drB at kk
  refine pj_J.go (oX4_drift G) 3 rfl trivial ?_
  refine pj_J.neg (by rw [hm, Int32.lt_iff_toInt_lt, nI_toInt (by omega), nI_toInt (by omega)]; omega) ?_
  refine pj_J.go (oX4_drift G) 15 rfl ⟨by exact (by rw [hmm]; exact fm_nz64 h1 (by omega)), by exact (by rw [hmm, fm_drX rfl hp (by omega) ha h1 hM]; exact vp_in_nI (Nat.lt_of_lt_of_le (Nat.mod_lt _ (by omega)) hM) (by decide)), trivial⟩ ?_
  exact pj_J.drp kk ⟨rfl, rfl, rfl, rfl, rfl, rfl, rfl, rfl, rfl, rfl, rfl, rfl, trivial⟩
theorem lz_drB {G : pj_G} {d : Nat} {c : sx_C} {m : sx_M} {o : Nat → Int64} {D : pj_H} {Q : pj_O → pj_H → Prop} (rt md n most wh g p q mm : Int32) (sg : Int64) (M : Nat) (hM : M ≤ 200) (hmm : mm = nI M) (X : Nat) (hX : X ≤ 1000) (hm : most = nI X) (kk : pj_J G mX4_drift (d + 2) 196 [some (.ref 59), some (.int rt), some (.int md), some (.int n), some (.int most), some (.int wh), some (.int g), some (.int p), some (.int q), some (.int mm), some (.long sg), none, some (.int (nI 0)), none, none, none, none, none] [] (sx_mk c m o D) 0 0 Q) : pj_J G mX4_drift (d + 2) 162 [some (.ref 59), some (.int rt), some (.int md), some (.int n), some (.int most), some (.int wh), some (.int g), some (.int p), some (.int q), some (.int mm), some (.long sg), none, some (.int (nI (X + 1))), none, none, none, none, none] [] (sx_mk c m o D) 0 0 Q := by
  refine pj_J.go (oX4_drift G) 3 rfl trivial ?_
  refine pj_J.pos (by rw [hm, Int32.lt_iff_toInt_lt, nI_toInt (by omega), nI_toInt (by omega)]; omega) ?_
  refine pj_J.go (oX4_drift G) 2 rfl trivial ?_
  exact pj_J.drp kk ⟨rfl, rfl, rfl, rfl, rfl, rfl, rfl, rfl, rfl, rfl, rfl, rfl, trivial⟩
def fm_drC (k : Nat) (m : sx_M) : sx_M := sx_sL m 49 (vp_updL (sx_L m 49) (nI k).toNatClampNeg (-1099511627776 : Int64))
theorem ly_fm_drC {G : pj_G} {d : Nat} {c : sx_C} {m : sx_M} {o : Nat → Int64} {D : pj_H} {Q : pj_O → pj_H → Prop}  (rt md n most wh g p q mm : Int32) (sg : Int64) (M : Nat) (hM : M ≤ 200) (hmm : mm = nI M) (z : Int32) (k : Nat) (hk : k < M)  (kk : pj_J G mX4_drift (d + 2) 205 [some (.ref 59), some (.int rt), some (.int md), some (.int n), some (.int most), some (.int wh), some (.int g), some (.int p), some (.int q), some (.int mm), some (.long sg), none, some (.int z), some (.int (nI k + 1)), none, none, none, none] [] (sx_mk c (fm_drC k m) o D) 0 0 Q) : pj_J G mX4_drift (d + 2) 205 [some (.ref 59), some (.int rt), some (.int md), some (.int n), some (.int most), some (.int wh), some (.int g), some (.int p), some (.int q), some (.int mm), some (.long sg), none, some (.int z), some (.int (nI k)), none, none, none, none] [] (sx_mk c m o D) 0 0 Q := by
  unfold fm_drC at kk
  refine pj_J.go (oX4_drift G) 3 rfl trivial ?_
  refine pj_J.neg (by rw [hmm]; exact nI_lt_lit hk (by omega)) ?_
  refine pj_J.go (oX4_drift G) 7 rfl ⟨by exact vp_in_lit (by omega) (by decide), trivial⟩ ?_
  exact pj_J.drp kk ⟨rfl, rfl, rfl, rfl, rfl, rfl, rfl, rfl, rfl, rfl, rfl, rfl, rfl, trivial⟩
theorem lz_drC {G : pj_G} {d : Nat} {c : sx_C} {m : sx_M} {o : Nat → Int64} {D : pj_H} {Q : pj_O → pj_H → Prop} (rt md n most wh g p q mm : Int32) (sg : Int64) (M : Nat) (hM : M ≤ 200) (hmm : mm = nI M) (z : Int32)  (kk : pj_J G mX4_drift (d + 2) 231 [some (.ref 59), some (.int rt), some (.int md), some (.int n), some (.int most), some (.int wh), some (.int g), some (.int p), some (.int q), some (.int mm), some (.long sg), none, some (.int z), some (.int (nI 0)), none, none, none, none] [] (sx_mk c m o D) 0 0 Q) : pj_J G mX4_drift (d + 2) 205 [some (.ref 59), some (.int rt), some (.int md), some (.int n), some (.int most), some (.int wh), some (.int g), some (.int p), some (.int q), some (.int mm), some (.long sg), none, some (.int z), some (.int (nI M)), none, none, none, none] [] (sx_mk c m o D) 0 0 Q := by
  refine pj_J.go (oX4_drift G) 3 rfl trivial ?_
  refine pj_J.pos (by rw [hmm]; exact nI_ge_lit (Nat.le_refl _) (by omega)) ?_
  refine pj_J.go (oX4_drift G) 2 rfl trivial ?_
  exact pj_J.drp kk ⟨rfl, rfl, rfl, rfl, rfl, rfl, rfl, rfl, rfl, rfl, rfl, rfl, rfl, trivial⟩
theorem fm_drT {i j M : Nat} (hi : i < M) (hj : j < M) (hM : M ≤ 200) : (nI i + nI j) - (nI i + nI j) / nI M * nI M = nI ((i + j) % M) := by
  rw [nI_add]
  exact pk_rem (by omega) (by omega) (by omega)
def fm_drE (md q mm : Int32) (sg : Int64) (r k : Nat) (m : sx_M) : sx_M := if (sx_I m 50 (nI k).toNatClampNeg) = (0 : Int32) then (sx_sL m 49 (vp_updL (sx_L m 49) (((nI r) + (nI k)) - ((nI r) + (nI k)) / mm * mm).toNatClampNeg (sx_L m 49 (((nI r) + (nI k)) - ((nI r) + (nI k)) / mm * mm).toNatClampNeg))) else (if ((sx_L m 48 (nI r).toNatClampNeg) + (sg * ((q.toInt64 * (fm_times ((nI k).toInt64) q.toInt64 md)) - (nI k).toInt64))) ≤ (sx_L m 49 (((nI r) + (nI k)) - ((nI r) + (nI k)) / mm * mm).toNatClampNeg) then (sx_sL m 49 (vp_updL (sx_L m 49) (((nI r) + (nI k)) - ((nI r) + (nI k)) / mm * mm).toNatClampNeg (sx_L m 49 (((nI r) + (nI k)) - ((nI r) + (nI k)) / mm * mm).toNatClampNeg))) else (sx_sL m 49 (vp_updL (sx_L m 49) (((nI r) + (nI k)) - ((nI r) + (nI k)) / mm * mm).toNatClampNeg ((sx_L m 48 (nI r).toNatClampNeg) + (sg * ((q.toInt64 * (fm_times ((nI k).toInt64) q.toInt64 md)) - (nI k).toInt64))))))
theorem ly_fm_drE {G : pj_G} {d : Nat} {c : sx_C} {m : sx_M} {o : Nat → Int64} {D : pj_H} {Q : pj_O → pj_H → Prop}  (rt md n most wh g p q mm : Int32) (sg : Int64) (M : Nat) (hM : M ≤ 200) (hmm : mm = nI M) (z : Int32) (hq : ¬ q.toInt64 = 0) (r : Nat) (hr : r < M) (k : Nat) (hk : k < M) (hb : ¬ sx_L m 48 (nI r).toNatClampNeg ≤ -1099511627776) (kk : pj_J G mX4_drift (d + 2) 241 [some (.ref 59), some (.int rt), some (.int md), some (.int n), some (.int most), some (.int wh), some (.int g), some (.int p), some (.int q), some (.int mm), some (.long sg), none, some (.int z), some (.int (nI r)), some (.int (nI k + 1)), none, none, none] [] (sx_mk c (fm_drE md q mm sg r k m) o D) 0 0 Q) : pj_J G mX4_drift (d + 2) 241 [some (.ref 59), some (.int rt), some (.int md), some (.int n), some (.int most), some (.int wh), some (.int g), some (.int p), some (.int q), some (.int mm), some (.long sg), none, some (.int z), some (.int (nI r)), some (.int (nI k)), none, none, none] [] (sx_mk c m o D) 0 0 Q := by
  unfold fm_drE at kk
  refine pj_J.go (oX4_drift G) 3 rfl trivial ?_
  refine pj_J.neg (by rw [hmm]; exact nI_lt_lit hk (by omega)) ?_
  refine pj_J.go (oX4_drift G) 7 rfl ⟨by exact vp_in_lit (by omega) (by decide), trivial⟩ ?_
  refine pj_J.neg (by rw [pj_lc_le]; exact hb) ?_
  refine pj_J.go (oX4_drift G) 12 rfl ⟨by exact vp_in_lit (by omega) (by decide), trivial⟩ ?_
  refine pj_J.cal0 kX4_drift_281 (c_X4_times ((nI k).toInt64) q.toInt64 md hq) trivial pj_le0 pj_le0 pj_le0 ?_
  refine pj_J.go (oX4_drift G) 21 rfl ⟨by exact (by rw [hmm]; exact fm_nz32 (by omega) (by omega)), by exact vp_in_lit (by omega) (by decide), trivial⟩ ?_
  refine pj_J.ite (fun hc316 => ?_) (fun hc316 => ?_)
  · skip
    refine pj_J.go (oX4_drift G) 7 rfl ⟨by exact (by rw [hmm, fm_drT hr hk hM]; exact vp_in_nI (Nat.lt_of_lt_of_le (Nat.mod_lt _ (by omega)) hM) (by decide)), by exact (by rw [hmm, fm_drT hr hk hM]; exact vp_in_nI (Nat.lt_of_lt_of_le (Nat.mod_lt _ (by omega)) hM) (by decide)), trivial⟩ ?_
    rw [if_pos (show (sx_I m 50 (nI k).toNatClampNeg) = (0 : Int32) from hc316)] at kk
    exact pj_J.drp kk ⟨rfl, rfl, rfl, rfl, rfl, rfl, rfl, rfl, rfl, rfl, rfl, rfl, rfl, rfl, trivial⟩
  · skip
    refine pj_J.go (oX4_drift G) 7 rfl ⟨by exact (by rw [hmm, fm_drT hr hk hM]; exact vp_in_nI (Nat.lt_of_lt_of_le (Nat.mod_lt _ (by omega)) hM) (by decide)), trivial⟩ ?_
    refine pj_J.ite (fun hc329 => ?_) (fun hc329 => ?_)
    · simp only [pj_lc_le] at hc329
      refine pj_J.go (oX4_drift G) 7 rfl ⟨by exact (by rw [hmm, fm_drT hr hk hM]; exact vp_in_nI (Nat.lt_of_lt_of_le (Nat.mod_lt _ (by omega)) hM) (by decide)), by exact (by rw [hmm, fm_drT hr hk hM]; exact vp_in_nI (Nat.lt_of_lt_of_le (Nat.mod_lt _ (by omega)) hM) (by decide)), trivial⟩ ?_
      rw [if_neg (show ¬ ((sx_I m 50 (nI k).toNatClampNeg) = (0 : Int32)) from hc316), if_pos (show ((sx_L m 48 (nI r).toNatClampNeg) + (sg * ((q.toInt64 * (fm_times ((nI k).toInt64) q.toInt64 md)) - (nI k).toInt64))) ≤ (sx_L m 49 (((nI r) + (nI k)) - ((nI r) + (nI k)) / mm * mm).toNatClampNeg) from hc329)] at kk
      exact pj_J.drp kk ⟨rfl, rfl, rfl, rfl, rfl, rfl, rfl, rfl, rfl, rfl, rfl, rfl, rfl, rfl, trivial⟩
    · simp only [pj_lc_le] at hc329
      refine pj_J.go (oX4_drift G) 5 rfl ⟨by exact (by rw [hmm, fm_drT hr hk hM]; exact vp_in_nI (Nat.lt_of_lt_of_le (Nat.mod_lt _ (by omega)) hM) (by decide)), trivial⟩ ?_
      rw [if_neg (show ¬ ((sx_I m 50 (nI k).toNatClampNeg) = (0 : Int32)) from hc316), if_neg (show ¬ (((sx_L m 48 (nI r).toNatClampNeg) + (sg * ((q.toInt64 * (fm_times ((nI k).toInt64) q.toInt64 md)) - (nI k).toInt64))) ≤ (sx_L m 49 (((nI r) + (nI k)) - ((nI r) + (nI k)) / mm * mm).toNatClampNeg)) from hc329)] at kk
      exact pj_J.drp kk ⟨rfl, rfl, rfl, rfl, rfl, rfl, rfl, rfl, rfl, rfl, rfl, rfl, rfl, rfl, trivial⟩
theorem lz_drE {G : pj_G} {d : Nat} {c : sx_C} {m : sx_M} {o : Nat → Int64} {D : pj_H} {Q : pj_O → pj_H → Prop} (rt md n most wh g p q mm : Int32) (sg : Int64) (M : Nat) (hM : M ≤ 200) (hmm : mm = nI M) (z : Int32) (hq : ¬ q.toInt64 = 0) (r : Nat) (hr : r < M)  (kk : pj_J G mX4_drift (d + 2) 231 [some (.ref 59), some (.int rt), some (.int md), some (.int n), some (.int most), some (.int wh), some (.int g), some (.int p), some (.int q), some (.int mm), some (.long sg), none, some (.int z), some (.int (nI r + 1)), none, none, none, none] [] (sx_mk c m o D) 0 0 Q) : pj_J G mX4_drift (d + 2) 241 [some (.ref 59), some (.int rt), some (.int md), some (.int n), some (.int most), some (.int wh), some (.int g), some (.int p), some (.int q), some (.int mm), some (.long sg), none, some (.int z), some (.int (nI r)), some (.int (nI M)), none, none, none] [] (sx_mk c m o D) 0 0 Q := by
  refine pj_J.go (oX4_drift G) 3 rfl trivial ?_
  refine pj_J.pos (by rw [hmm]; exact nI_ge_lit (Nat.le_refl _) (by omega)) ?_
  refine pj_J.go (oX4_drift G) 2 rfl trivial ?_
  exact pj_J.drp kk ⟨rfl, rfl, rfl, rfl, rfl, rfl, rfl, rfl, rfl, rfl, rfl, rfl, rfl, trivial⟩
theorem lz_drE0 {G : pj_G} {d : Nat} {c : sx_C} {m : sx_M} {o : Nat → Int64} {D : pj_H} {Q : pj_O → pj_H → Prop} (rt md n most wh g p q mm : Int32) (sg : Int64) (M : Nat) (hM : M ≤ 200) (hmm : mm = nI M) (z : Int32) (hq : ¬ q.toInt64 = 0) (r : Nat) (hr : r < M) (k : Nat) (hk : k < M) (hb : sx_L m 48 (nI r).toNatClampNeg ≤ -1099511627776) (kk : pj_J G mX4_drift (d + 2) 231 [some (.ref 59), some (.int rt), some (.int md), some (.int n), some (.int most), some (.int wh), some (.int g), some (.int p), some (.int q), some (.int mm), some (.long sg), none, some (.int z), some (.int (nI r + 1)), none, none, none, none] [] (sx_mk c m o D) 0 0 Q) : pj_J G mX4_drift (d + 2) 241 [some (.ref 59), some (.int rt), some (.int md), some (.int n), some (.int most), some (.int wh), some (.int g), some (.int p), some (.int q), some (.int mm), some (.long sg), none, some (.int z), some (.int (nI r)), some (.int (nI k)), none, none, none] [] (sx_mk c m o D) 0 0 Q := by
  refine pj_J.go (oX4_drift G) 3 rfl trivial ?_
  refine pj_J.neg (by rw [hmm]; exact nI_lt_lit hk (by omega)) ?_
  refine pj_J.go (oX4_drift G) 7 rfl ⟨by exact vp_in_lit (by omega) (by decide), trivial⟩ ?_
  refine pj_J.pos (by rw [pj_lc_le]; exact hb) ?_
  refine pj_J.go (oX4_drift G) 2 rfl trivial ?_
  exact pj_J.drp kk ⟨rfl, rfl, rfl, rfl, rfl, rfl, rfl, rfl, rfl, rfl, rfl, rfl, rfl, trivial⟩
theorem lx_drE {G : pj_G} {d : Nat} {c : sx_C} {m : sx_M} {o : Nat → Int64} {D : pj_H} {Q : pj_O → pj_H → Prop} (rt md n most wh g p q mm : Int32) (sg : Int64) (M : Nat) (hM : M ≤ 200) (hmm : mm = nI M) (z : Int32) (k : Nat) (hk : k < M)  (kk : pj_J G mX4_drift (d + 2) 241 [some (.ref 59), some (.int rt), some (.int md), some (.int n), some (.int most), some (.int wh), some (.int g), some (.int p), some (.int q), some (.int mm), some (.long sg), none, some (.int z), some (.int (nI k)), some (.int (nI 0)), none, none, none] [] (sx_mk c m o D) 0 0 Q) : pj_J G mX4_drift (d + 2) 231 [some (.ref 59), some (.int rt), some (.int md), some (.int n), some (.int most), some (.int wh), some (.int g), some (.int p), some (.int q), some (.int mm), some (.long sg), none, some (.int z), some (.int (nI k)), none, none, none, none] [] (sx_mk c m o D) 0 0 Q := by
  refine pj_J.go (oX4_drift G) 3 rfl trivial ?_
  refine pj_J.neg (by rw [hmm]; exact nI_lt_lit hk (by omega)) ?_
  refine pj_J.go (oX4_drift G) 2 rfl trivial ?_
  exact pj_J.drp kk ⟨rfl, rfl, rfl, rfl, rfl, rfl, rfl, rfl, rfl, rfl, rfl, rfl, rfl, rfl, trivial⟩
theorem lz_drF {G : pj_G} {d : Nat} {c : sx_C} {m : sx_M} {o : Nat → Int64} {D : pj_H} {Q : pj_O → pj_H → Prop} (rt md n most wh g p q mm : Int32) (sg : Int64) (M : Nat) (hM : M ≤ 200) (hmm : mm = nI M) (z : Int32)  (kk : pj_J G mX4_drift (d + 2) 360 [some (.ref 59), some (.int rt), some (.int md), some (.int n), some (.int most), some (.int wh), some (.int g), some (.int p), some (.int q), some (.int mm), some (.long sg), none, some (.int z), some (.int (nI 0)), none, none, none, none] [] (sx_mk c m o D) 0 0 Q) : pj_J G mX4_drift (d + 2) 231 [some (.ref 59), some (.int rt), some (.int md), some (.int n), some (.int most), some (.int wh), some (.int g), some (.int p), some (.int q), some (.int mm), some (.long sg), none, some (.int z), some (.int (nI M)), none, none, none, none] [] (sx_mk c m o D) 0 0 Q := by
  refine pj_J.go (oX4_drift G) 3 rfl trivial ?_
  refine pj_J.pos (by rw [hmm]; exact nI_ge_lit (Nat.le_refl _) (by omega)) ?_
  refine pj_J.go (oX4_drift G) 2 rfl trivial ?_
  exact pj_J.drp kk ⟨rfl, rfl, rfl, rfl, rfl, rfl, rfl, rfl, rfl, rfl, rfl, rfl, rfl, trivial⟩
def fm_drG (k : Nat) (m : sx_M) : sx_M := sx_sL m 48 (vp_updL (sx_L m 48) (nI k).toNatClampNeg (sx_L m 49 (nI k).toNatClampNeg))
theorem ly_fm_drG {G : pj_G} {d : Nat} {c : sx_C} {m : sx_M} {o : Nat → Int64} {D : pj_H} {Q : pj_O → pj_H → Prop}  (rt md n most wh g p q mm : Int32) (sg : Int64) (M : Nat) (hM : M ≤ 200) (hmm : mm = nI M) (z : Int32) (k : Nat) (hk : k < M)  (kk : pj_J G mX4_drift (d + 2) 360 [some (.ref 59), some (.int rt), some (.int md), some (.int n), some (.int most), some (.int wh), some (.int g), some (.int p), some (.int q), some (.int mm), some (.long sg), none, some (.int z), some (.int (nI k + 1)), none, none, none, none] [] (sx_mk c (fm_drG k m) o D) 0 0 Q) : pj_J G mX4_drift (d + 2) 360 [some (.ref 59), some (.int rt), some (.int md), some (.int n), some (.int most), some (.int wh), some (.int g), some (.int p), some (.int q), some (.int mm), some (.long sg), none, some (.int z), some (.int (nI k)), none, none, none, none] [] (sx_mk c m o D) 0 0 Q := by
  unfold fm_drG at kk
  refine pj_J.go (oX4_drift G) 3 rfl trivial ?_
  refine pj_J.neg (by rw [hmm]; exact nI_lt_lit hk (by omega)) ?_
  refine pj_J.go (oX4_drift G) 10 rfl ⟨by exact vp_in_lit (by omega) (by decide), by exact vp_in_lit (by omega) (by decide), trivial⟩ ?_
  exact pj_J.drp kk ⟨rfl, rfl, rfl, rfl, rfl, rfl, rfl, rfl, rfl, rfl, rfl, rfl, rfl, trivial⟩
theorem lz_drG {G : pj_G} {d : Nat} {c : sx_C} {m : sx_M} {o : Nat → Int64} {D : pj_H} {Q : pj_O → pj_H → Prop} (rt md n most wh g p q mm : Int32) (sg : Int64) (M : Nat) (hM : M ≤ 200) (hmm : mm = nI M) (z : Int32)  (kk : pj_J G mX4_drift (d + 2) 196 [some (.ref 59), some (.int rt), some (.int md), some (.int n), some (.int most), some (.int wh), some (.int g), some (.int p), some (.int q), some (.int mm), some (.long sg), none, some (.int (z + 1)), none, none, none, none, none] [] (sx_mk c m o D) 0 0 Q) : pj_J G mX4_drift (d + 2) 360 [some (.ref 59), some (.int rt), some (.int md), some (.int n), some (.int most), some (.int wh), some (.int g), some (.int p), some (.int q), some (.int mm), some (.long sg), none, some (.int z), some (.int (nI M)), none, none, none, none] [] (sx_mk c m o D) 0 0 Q := by
  refine pj_J.go (oX4_drift G) 3 rfl trivial ?_
  refine pj_J.pos (by rw [hmm]; exact nI_ge_lit (Nat.le_refl _) (by omega)) ?_
  refine pj_J.go (oX4_drift G) 2 rfl trivial ?_
  exact pj_J.drp kk ⟨rfl, rfl, rfl, rfl, rfl, rfl, rfl, rfl, rfl, rfl, rfl, rfl, trivial⟩
theorem lx_drK {G : pj_G} {d : Nat} {c : sx_C} {m : sx_M} {o : Nat → Int64} {D : pj_H} {Q : pj_O → pj_H → Prop} (rt md n most wh g p q mm : Int32) (sg : Int64) (M : Nat) (hM : M ≤ 200) (hmm : mm = nI M) (N k : Nat) (hN : N ≤ 12) (hn : n = nI N) (hk : k < N)  (kk : pj_J G mX4_drift (d + 2) 205 [some (.ref 59), some (.int rt), some (.int md), some (.int n), some (.int most), some (.int wh), some (.int g), some (.int p), some (.int q), some (.int mm), some (.long sg), none, some (.int (nI k)), some (.int (nI 0)), none, none, none, none] [] (sx_mk c m o D) 0 0 Q) : pj_J G mX4_drift (d + 2) 196 [some (.ref 59), some (.int rt), some (.int md), some (.int n), some (.int most), some (.int wh), some (.int g), some (.int p), some (.int q), some (.int mm), some (.long sg), none, some (.int (nI k)), none, none, none, none, none] [] (sx_mk c m o D) 0 0 Q := by
  refine pj_J.go (oX4_drift G) 3 rfl trivial ?_
  refine pj_J.neg (by rw [hn]; exact nI_lt_lit hk (by omega)) ?_
  refine pj_J.go (oX4_drift G) 2 rfl trivial ?_
  exact pj_J.drp kk ⟨rfl, rfl, rfl, rfl, rfl, rfl, rfl, rfl, rfl, rfl, rfl, rfl, rfl, trivial⟩
theorem lz_drK {G : pj_G} {d : Nat} {c : sx_C} {m : sx_M} {o : Nat → Int64} {D : pj_H} {Q : pj_O → pj_H → Prop} (rt md n most wh g p q mm : Int32) (sg : Int64) (M : Nat) (hM : M ≤ 200) (hmm : mm = nI M) (N : Nat) (hN : N ≤ 12) (hn : n = nI N)  (kk : pj_J G mX4_drift (d + 2) 401 [some (.ref 59), some (.int rt), some (.int md), some (.int n), some (.int most), some (.int wh), some (.int g), some (.int p), some (.int q), some (.int mm), some (.long sg), none, some (.long (-1099511627776)), none, some (.int (nI 0)), none, none, none] [] (sx_mk c m o D) 0 0 Q) : pj_J G mX4_drift (d + 2) 196 [some (.ref 59), some (.int rt), some (.int md), some (.int n), some (.int most), some (.int wh), some (.int g), some (.int p), some (.int q), some (.int mm), some (.long sg), none, some (.int (nI N)), none, none, none, none, none] [] (sx_mk c m o D) 0 0 Q := by
  refine pj_J.go (oX4_drift G) 3 rfl trivial ?_
  refine pj_J.pos (by rw [hn]; exact nI_ge_lit (Nat.le_refl _) (by omega)) ?_
  refine pj_J.go (oX4_drift G) 4 rfl trivial ?_
  exact pj_J.drp kk ⟨rfl, rfl, rfl, rfl, rfl, rfl, rfl, rfl, rfl, rfl, rfl, rfl, rfl, trivial⟩
def fm_drD (m : sx_M) (md q : Int32) (sg : Int64) (k : Nat) (tp : Int64) : Int64 := if (sx_L m 48 (nI k).toNatClampNeg) ≤ (-1099511627776 : Int64) then tp else (if ((sx_L m 48 (nI k).toNatClampNeg) - (sg * ((q.toInt64 * (fm_times ((nI k).toInt64) q.toInt64 md)) - (nI k).toInt64))) ≤ tp then tp else ((sx_L m 48 (nI k).toNatClampNeg) - (sg * ((q.toInt64 * (fm_times ((nI k).toInt64) q.toInt64 md)) - (nI k).toInt64))))
theorem ly_fm_drD {G : pj_G} {d : Nat} {c : sx_C} {m : sx_M} {o : Nat → Int64} {D : pj_H} {Q : pj_O → pj_H → Prop}  (rt md n most wh g p q mm : Int32) (sg : Int64) (M : Nat) (hM : M ≤ 200) (hmm : mm = nI M) (hq : ¬ q.toInt64 = 0) (tp : Int64) (k : Nat) (hk : k < M)  (kk : pj_J G mX4_drift (d + 2) 401 [some (.ref 59), some (.int rt), some (.int md), some (.int n), some (.int most), some (.int wh), some (.int g), some (.int p), some (.int q), some (.int mm), some (.long sg), none, some (.long (fm_drD m md q sg k tp)), none, some (.int (nI k + 1)), none, none, none] [] (sx_mk c m o D) 0 0 Q) : pj_J G mX4_drift (d + 2) 401 [some (.ref 59), some (.int rt), some (.int md), some (.int n), some (.int most), some (.int wh), some (.int g), some (.int p), some (.int q), some (.int mm), some (.long sg), none, some (.long tp), none, some (.int (nI k)), none, none, none] [] (sx_mk c m o D) 0 0 Q := by
  unfold fm_drD at kk
  refine pj_J.go (oX4_drift G) 3 rfl trivial ?_
  refine pj_J.neg (by rw [hmm]; exact nI_lt_lit hk (by omega)) ?_
  refine pj_J.go (oX4_drift G) 12 rfl ⟨by exact vp_in_lit (by omega) (by decide), trivial⟩ ?_
  refine pj_J.cal0 kX4_drift_427 (c_X4_times ((nI k).toInt64) q.toInt64 md hq) trivial pj_le0 pj_le0 pj_le0 ?_
  refine pj_J.go (oX4_drift G) 14 rfl ⟨by exact vp_in_lit (by omega) (by decide), trivial⟩ ?_
  refine pj_J.ite (fun hc450 => ?_) (fun hc450 => ?_)
  · simp only [pj_lc_le] at hc450
    refine pj_J.go (oX4_drift G) 4 rfl trivial ?_
    rw [if_pos (show (sx_L m 48 (nI k).toNatClampNeg) ≤ (-1099511627776 : Int64) from hc450)] at kk
    exact pj_J.drp kk ⟨rfl, rfl, rfl, rfl, rfl, rfl, rfl, rfl, rfl, rfl, rfl, rfl, rfl, trivial⟩
  · simp only [pj_lc_le] at hc450
    refine pj_J.go (oX4_drift G) 4 rfl trivial ?_
    refine pj_J.ite (fun hc458 => ?_) (fun hc458 => ?_)
    · simp only [pj_lc_le] at hc458
      refine pj_J.go (oX4_drift G) 4 rfl trivial ?_
      rw [if_neg (show ¬ ((sx_L m 48 (nI k).toNatClampNeg) ≤ (-1099511627776 : Int64)) from hc450), if_pos (show ((sx_L m 48 (nI k).toNatClampNeg) - (sg * ((q.toInt64 * (fm_times ((nI k).toInt64) q.toInt64 md)) - (nI k).toInt64))) ≤ tp from hc458)] at kk
      exact pj_J.drp kk ⟨rfl, rfl, rfl, rfl, rfl, rfl, rfl, rfl, rfl, rfl, rfl, rfl, rfl, trivial⟩
    · simp only [pj_lc_le] at hc458
      refine pj_J.go (oX4_drift G) 5 rfl trivial ?_
      rw [if_neg (show ¬ ((sx_L m 48 (nI k).toNatClampNeg) ≤ (-1099511627776 : Int64)) from hc450), if_neg (show ¬ (((sx_L m 48 (nI k).toNatClampNeg) - (sg * ((q.toInt64 * (fm_times ((nI k).toInt64) q.toInt64 md)) - (nI k).toInt64))) ≤ tp) from hc458)] at kk
      exact pj_J.drp kk ⟨rfl, rfl, rfl, rfl, rfl, rfl, rfl, rfl, rfl, rfl, rfl, rfl, rfl, trivial⟩
theorem lz_drD {G : pj_G} {d : Nat} {c : sx_C} {m : sx_M} {o : Nat → Int64} {D : pj_H} {Q : pj_O → pj_H → Prop} (rt md n most wh g p q mm : Int32) (sg : Int64) (M : Nat) (hM : M ≤ 200) (hmm : mm = nI M) (hq : ¬ q.toInt64 = 0) (tp : Int64) (q1 : Q (.inl (some (.int (sg * tp / q.toInt64).toInt32))) (sx_mk c m o D)) : pj_J G mX4_drift (d + 2) 401 [some (.ref 59), some (.int rt), some (.int md), some (.int n), some (.int most), some (.int wh), some (.int g), some (.int p), some (.int q), some (.int mm), some (.long sg), none, some (.long tp), none, some (.int (nI M)), none, none, none] [] (sx_mk c m o D) 0 0 Q := by
  refine pj_J.go (oX4_drift G) 3 rfl trivial ?_
  refine pj_J.pos (by rw [hmm]; exact nI_ge_lit (Nat.le_refl _) (by omega)) ?_
  refine pj_J.go (oX4_drift G) 7 rfl ⟨by exact hq, trivial⟩ ?_
  exact pj_iret dX4_drift_486 rfl q1
theorem fm_drE_48 (md q mm : Int32) (sg : Int64) (r k : Nat) (m : sx_M) : sx_L (fm_drE md q mm sg r k m) 48 = sx_L m 48 := by
  unfold fm_drE
  repeat' split
  all_goals rfl
def fm_drR (md q mm : Int32) (sg : Int64) (M r : Nat) (m : sx_M) : sx_M := if sx_L m 48 (nI r).toNatClampNeg ≤ -1099511627776 then m else it_up (fm_drE md q mm sg r) M 0 m
theorem lp_drE {G : pj_G} {d : Nat} {c : sx_C} {m : sx_M} {o : Nat → Int64} {D : pj_H} {Q : pj_O → pj_H → Prop} (rt md n most wh g p q mm : Int32) (sg : Int64) (M : Nat) (hM : M ≤ 200) (hmm : mm = nI M) (z : Int32) (hq : ¬ q.toInt64 = 0) (r : Nat) (hr : r < M) (kk : pj_J G mX4_drift (d + 2) 231 [some (.ref 59), some (.int rt), some (.int md), some (.int n), some (.int most), some (.int wh), some (.int g), some (.int p), some (.int q), some (.int mm), some (.long sg), none, some (.int z), some (.int (nI r + 1)), none, none, none, none] [] (sx_mk c (fm_drR md q mm sg M r m) o D) 0 0 Q) : pj_J G mX4_drift (d + 2) 241 [some (.ref 59), some (.int rt), some (.int md), some (.int n), some (.int most), some (.int wh), some (.int g), some (.int p), some (.int q), some (.int mm), some (.long sg), none, some (.int z), some (.int (nI r)), some (.int (nI 0)), none, none, none] [] (sx_mk c m o D) 0 0 Q := by
  unfold fm_drR at kk
  split at kk
  · rename_i hb
    exact lz_drE0 rt md n most wh g p q mm sg M hM hmm z hq r hr 0 (by omega) hb kk
  · rename_i hb
    exact pj_for (fun k s => pj_J G mX4_drift (d + 2) 241 [some (.ref 59), some (.int rt), some (.int md), some (.int n), some (.int most), some (.int wh), some (.int g), some (.int p), some (.int q), some (.int mm), some (.long sg), none, some (.int z), some (.int (nI r)), some (.int (nI k)), none, none, none] [] (sx_mk c s o D) 0 0 Q) (fm_drE md q mm sg r) (fun _ s => sx_L s 48 = sx_L m 48) M (fun k s hk hi => ⟨(fm_drE_48 md q mm sg r k s).trans hi, fun kk => ly_fm_drE rt md n most wh g p q mm sg M hM hmm z hq r hr k hk (by rw [hi]; exact hb) (by rw [nI_add1]; exact kk)⟩) M 0 m (by simp) rfl (fun hi => lz_drE rt md n most wh g p q mm sg M hM hmm z hq r hr kk)
def fm_drK (md q mm : Int32) (sg : Int64) (M : Nat) (m : sx_M) : sx_M := it_up fm_drG M 0 (it_up (fm_drR md q mm sg M) M 0 (it_up fm_drC M 0 m))
theorem lp_drK {G : pj_G} {d : Nat} {c : sx_C} {m : sx_M} {o : Nat → Int64} {D : pj_H} {Q : pj_O → pj_H → Prop} (rt md n most wh g p q mm : Int32) (sg : Int64) (M : Nat) (hM : M ≤ 200) (hmm : mm = nI M) (hq : ¬ q.toInt64 = 0) (N k0 : Nat) (hN : N ≤ 12) (hn : n = nI N) (hk0 : k0 < N) (kk : pj_J G mX4_drift (d + 2) 196 [some (.ref 59), some (.int rt), some (.int md), some (.int n), some (.int most), some (.int wh), some (.int g), some (.int p), some (.int q), some (.int mm), some (.long sg), none, some (.int (nI k0 + 1)), none, none, none, none, none] [] (sx_mk c (fm_drK md q mm sg M m) o D) 0 0 Q) : pj_J G mX4_drift (d + 2) 196 [some (.ref 59), some (.int rt), some (.int md), some (.int n), some (.int most), some (.int wh), some (.int g), some (.int p), some (.int q), some (.int mm), some (.long sg), none, some (.int (nI k0)), none, none, none, none, none] [] (sx_mk c m o D) 0 0 Q := by
  refine lx_drK rt md n most wh g p q mm sg M hM hmm N k0 hN hn hk0 ?_
  refine pj_for (fun k s => pj_J G mX4_drift (d + 2) 205 [some (.ref 59), some (.int rt), some (.int md), some (.int n), some (.int most), some (.int wh), some (.int g), some (.int p), some (.int q), some (.int mm), some (.long sg), none, some (.int (nI k0)), some (.int (nI k)), none, none, none, none] [] (sx_mk c s o D) 0 0 Q) (fm_drC) (fun _ _ => True) M (fun k s hk hi => ⟨hi, fun kk => ly_fm_drC rt md n most wh g p q mm sg M hM hmm (nI k0) k hk (by rw [nI_add1]; exact kk)⟩) M 0 m (by simp) trivial (fun hi => lz_drC rt md n most wh g p q mm sg M hM hmm (nI k0) ?_)
  refine pj_for (fun k s => pj_J G mX4_drift (d + 2) 231 [some (.ref 59), some (.int rt), some (.int md), some (.int n), some (.int most), some (.int wh), some (.int g), some (.int p), some (.int q), some (.int mm), some (.long sg), none, some (.int (nI k0)), some (.int (nI k)), none, none, none, none] [] (sx_mk c s o D) 0 0 Q) (fm_drR md q mm sg M) (fun _ _ => True) M (fun k s hk hi => ⟨hi, fun kk => lx_drE rt md n most wh g p q mm sg M hM hmm (nI k0) k hk (lp_drE rt md n most wh g p q mm sg M hM hmm (nI k0) hq k hk (by rw [nI_add1]; exact kk))⟩) M 0 (it_up fm_drC M 0 m) (by simp) trivial (fun hi => lz_drF rt md n most wh g p q mm sg M hM hmm (nI k0) ?_)
  exact pj_for (fun k s => pj_J G mX4_drift (d + 2) 360 [some (.ref 59), some (.int rt), some (.int md), some (.int n), some (.int most), some (.int wh), some (.int g), some (.int p), some (.int q), some (.int mm), some (.long sg), none, some (.int (nI k0)), some (.int (nI k)), none, none, none, none] [] (sx_mk c s o D) 0 0 Q) (fm_drG) (fun _ _ => True) M (fun k s hk hi => ⟨hi, fun kk => ly_fm_drG rt md n most wh g p q mm sg M hM hmm (nI k0) k hk (by rw [nI_add1]; exact kk)⟩) M 0 (it_up (fm_drR md q mm sg M) M 0 (it_up fm_drC M 0 m)) (by simp) trivial (fun hi => lz_drG rt md n most wh g p q mm sg M hM hmm (nI k0) kk)
def fm_drZ (m : sx_M) (md p q mm : Int32) (sg : Int64) (M N X : Nat) : sx_M := it_up (fun _ => fm_drK md q mm sg M) N 0 (it_up (fm_drB p mm) (X + 1) 0 (it_up fm_drA M 0 m))
theorem lp_drZ {G : pj_G} {d : Nat} {c : sx_C} {m : sx_M} {o : Nat → Int64} {D : pj_H} {Q : pj_O → pj_H → Prop} (rt md n most wh g p q mm : Int32) (sg : Int64) (M : Nat) (hM : M ≤ 200) (hmm : mm = nI M) (hq : ¬ q.toInt64 = 0) (N : Nat) (hN : N ≤ 12) (hn : n = nI N) (a : Nat) (ha : a ≤ 10000) (hp : p = nI a) (h1 : 1 ≤ M) (X : Nat) (hX : X ≤ 1000) (hm : most = nI X) (q1 : Q (.inl (some (.int (sg * (it_up (fm_drD (fm_drZ m md p q mm sg M N X) md q sg) M 0 (-1099511627776)) / q.toInt64).toInt32))) (sx_mk c (fm_drZ m md p q mm sg M N X) o D)) : pj_J G mX4_drift (d + 2) 119 [some (.ref 59), some (.int rt), some (.int md), some (.int n), some (.int most), some (.int wh), some (.int g), some (.int p), some (.int q), some (.int mm), some (.long sg), none, some (.int (nI 0)), none, none, none, none, none] [] (sx_mk c m o D) 0 0 Q := by
  refine pj_for (fun k s => pj_J G mX4_drift (d + 2) 119 [some (.ref 59), some (.int rt), some (.int md), some (.int n), some (.int most), some (.int wh), some (.int g), some (.int p), some (.int q), some (.int mm), some (.long sg), none, some (.int (nI k)), none, none, none, none, none] [] (sx_mk c s o D) 0 0 Q) (fm_drA) (fun _ _ => True) M (fun k s hk hi => ⟨hi, fun kk => ly_fm_drA rt md n most wh g p q mm sg M hM hmm k hk (by rw [nI_add1]; exact kk)⟩) M 0 m (by simp) trivial (fun hi => lz_drA rt md n most wh g p q mm sg M hM hmm ?_)
  refine pj_for (fun k s => pj_J G mX4_drift (d + 2) 162 [some (.ref 59), some (.int rt), some (.int md), some (.int n), some (.int most), some (.int wh), some (.int g), some (.int p), some (.int q), some (.int mm), some (.long sg), none, some (.int (nI k)), none, none, none, none, none] [] (sx_mk c s o D) 0 0 Q) (fm_drB p mm) (fun _ _ => True) (X + 1) (fun k s hk hi => ⟨hi, fun kk => ly_fm_drB rt md n most wh g p q mm sg M hM hmm a k ha hp h1 X hX hm (by omega) (by rw [nI_add1]; exact kk)⟩) (X + 1) 0 (it_up fm_drA M 0 m) (by simp) trivial (fun hi => lz_drB rt md n most wh g p q mm sg M hM hmm X hX hm ?_)
  refine pj_for (fun k s => pj_J G mX4_drift (d + 2) 196 [some (.ref 59), some (.int rt), some (.int md), some (.int n), some (.int most), some (.int wh), some (.int g), some (.int p), some (.int q), some (.int mm), some (.long sg), none, some (.int (nI k)), none, none, none, none, none] [] (sx_mk c s o D) 0 0 Q) (fun _ => fm_drK md q mm sg M) (fun _ _ => True) N (fun k s hk hi => ⟨hi, fun kk => lp_drK rt md n most wh g p q mm sg M hM hmm hq N k hN hn hk (by rw [nI_add1]; exact kk)⟩) N 0 (it_up (fm_drB p mm) (X + 1) 0 (it_up fm_drA M 0 m)) (by simp) trivial (fun hi => lz_drK rt md n most wh g p q mm sg M hM hmm N hN hn ?_)
  exact pj_for (fun k s => pj_J G mX4_drift (d + 2) 401 [some (.ref 59), some (.int rt), some (.int md), some (.int n), some (.int most), some (.int wh), some (.int g), some (.int p), some (.int q), some (.int mm), some (.long sg), none, some (.long s), none, some (.int (nI k)), none, none, none] [] (sx_mk c (fm_drZ m md p q mm sg M N X) o D) 0 0 Q) (fm_drD (fm_drZ m md p q mm sg M N X) md q sg) (fun _ _ => True) M (fun k s hk hi => ⟨hi, fun kk => ly_fm_drD rt md n most wh g p q mm sg M hM hmm hq s k hk (by rw [nI_add1]; exact kk)⟩) M 0 (-1099511627776) (by simp) trivial (fun hi => lz_drD rt md n most wh g p q mm sg M hM hmm hq _ q1)
def fm_drGood (m : sx_M) (rt md n most wh : Int32) : Int32 := if fm_in rt 0 7 = 0 then 0 else if 100 < sx_I m 2 rt.toNatClampNeg then 0 else if fm_in md 0 5 = 0 then 0 else if fm_in n 1 12 = 0 then 0 else if fm_in most 0 1000 = 0 then 0 else if fm_in wh 0 1 = 0 then 0 else 1
def fm_drS (m : sx_M) (rt md n most : Int32) (sg : Int64) : sx_M := fm_drZ (sx_si m 0 0) md (sx_I m 1 rt.toNatClampNeg) (sx_I m 2 rt.toNatClampNeg) (2 * sx_I m 2 rt.toNatClampNeg) sg (2 * sx_I m 2 rt.toNatClampNeg : Int32).toNatClampNeg n.toNatClampNeg most.toNatClampNeg
def fm_drV (m : sx_M) (rt md n most : Int32) (sg : Int64) : Int32 := (sg * (it_up (fm_drD (fm_drS m rt md n most sg) md (sx_I m 2 rt.toNatClampNeg) sg) (2 * sx_I m 2 rt.toNatClampNeg : Int32).toNatClampNeg 0 (-1099511627776)) / (sx_I m 2 rt.toNatClampNeg).toInt64).toInt32
def fm_drift (m : sx_M) (rt md n most wh : Int32) : Int32 × sx_M := if fm_drGood m rt md n most wh = 0 then (0, sx_si m 0 1) else (fm_drV m rt md n most (if wh = 0 then 1 else -1), fm_drS m rt md n most (if wh = 0 then 1 else -1))
theorem fm_in_1n {x : Int32} {n : Nat} (h : ¬ fm_in x 1 (nI n) = 0) (hn : n + 1 < 2 ^ 31 := by decide) : ∃ N, 1 ≤ N ∧ N ≤ n ∧ x = nI N := by
  unfold fm_in at h
  rw [pj_b_eq0] at h
  have h := Classical.not_not.mp h
  simp only [Int32.le_iff_toInt_le] at h
  rw [nI_toInt (by omega)] at h
  have h0 : (1 : Int32).toInt = 1 := rfl
  refine ⟨x.toInt.toNat, by omega, by omega, ?_⟩
  apply Int32.toInt_inj.mp
  rw [nI_toInt (by omega)]
  omega
theorem c_X4_drift {G : pj_G} {d : Nat} {c : sx_C} {m : sx_M} {o : Nat → Int64} {D : pj_H} (rt md n most wh : Int32) (hq : ∀ k, k < 8 → ∃ b, 1 ≤ b ∧ b ≤ 1000 ∧ sx_I m 2 k = nI b) (hp : ∀ k, k < 8 → ∃ a, a ≤ 10000 ∧ sx_I m 1 k = nI a) : pj_Rt G mX4_drift (d + 2) [.ref 59, .int rt, .int md, .int n, .int most, .int wh] (sx_mk c m o D) 0 0 (some (.int (fm_drift m rt md n most wh).1)) (sx_mk c (fm_drift m rt md n most wh).2 o D) := by
  refine pj_Cn.start ?_
  refine pj_J.go (oX4_drift G) 3 rfl trivial ?_
  refine pj_J.cal0 kX4_drift_4 (c_X4_in rt (0 : Int32) (7 : Int32)) trivial pj_le0 pj_le0 pj_le0 ?_
  refine pj_J.go (oX4_drift G) 1 rfl trivial ?_
  refine pj_J.ite (fun hc7 => ?_) (fun hc7 => ?_)
  · skip
    refine pj_J.go (oX4_drift G) 4 rfl trivial ?_
    refine pj_J.cal0 kX4_drift_72 (c_X4_isRefused (m := m) (0 : Int32)) ⟨_, _, _, rfl, rfl⟩ pj_le0 pj_le0 pj_le0 ?_
    refine pj_J.go (oX4_drift G) 1 rfl trivial ?_
    refine pj_J.neg (fun e => absurd (show (1 : Int32) = 0 from e) (by decide)) ?_
    refine pj_J.go (oX4_drift G) 1 rfl trivial ?_
    refine pj_iret dX4_drift_79 rfl ?_
    show _ = _ ∧ _ = _
    have e : fm_drGood m rt md n most wh = 0 := by unfold fm_drGood; rw [if_pos (show (fm_in rt (0 : Int32) (7 : Int32)) = (0 : Int32) from hc7)]
    unfold fm_drift
    rw [if_pos e]
    exact ⟨rfl, rfl⟩
  · skip
    refine pj_J.go (oX4_drift G) 6 rfl ⟨by exact fm_in_vp (n := 7) hc7, trivial⟩ ?_
    refine pj_J.ite (fun hc18 => ?_) (fun hc18 => ?_)
    · skip
      refine pj_J.go (oX4_drift G) 4 rfl trivial ?_
      refine pj_J.cal0 kX4_drift_72 (c_X4_isRefused (m := m) (0 : Int32)) ⟨_, _, _, rfl, rfl⟩ pj_le0 pj_le0 pj_le0 ?_
      refine pj_J.go (oX4_drift G) 1 rfl trivial ?_
      refine pj_J.neg (fun e => absurd (show (1 : Int32) = 0 from e) (by decide)) ?_
      refine pj_J.go (oX4_drift G) 1 rfl trivial ?_
      refine pj_iret dX4_drift_79 rfl ?_
      show _ = _ ∧ _ = _
      have e : fm_drGood m rt md n most wh = 0 := by unfold fm_drGood; rw [if_neg (show ¬ ((fm_in rt (0 : Int32) (7 : Int32)) = (0 : Int32)) from hc7), if_pos (show (100 : Int32) < (sx_I m 2 rt.toNatClampNeg) from hc18)]
      unfold fm_drift
      rw [if_pos e]
      exact ⟨rfl, rfl⟩
    · skip
      refine pj_J.go (oX4_drift G) 3 rfl trivial ?_
      refine pj_J.cal0 kX4_drift_24 (c_X4_in md (0 : Int32) (5 : Int32)) trivial pj_le0 pj_le0 pj_le0 ?_
      refine pj_J.go (oX4_drift G) 1 rfl trivial ?_
      refine pj_J.ite (fun hc27 => ?_) (fun hc27 => ?_)
      · skip
        refine pj_J.go (oX4_drift G) 4 rfl trivial ?_
        refine pj_J.cal0 kX4_drift_72 (c_X4_isRefused (m := m) (0 : Int32)) ⟨_, _, _, rfl, rfl⟩ pj_le0 pj_le0 pj_le0 ?_
        refine pj_J.go (oX4_drift G) 1 rfl trivial ?_
        refine pj_J.neg (fun e => absurd (show (1 : Int32) = 0 from e) (by decide)) ?_
        refine pj_J.go (oX4_drift G) 1 rfl trivial ?_
        refine pj_iret dX4_drift_79 rfl ?_
        show _ = _ ∧ _ = _
        have e : fm_drGood m rt md n most wh = 0 := by unfold fm_drGood; rw [if_neg (show ¬ ((fm_in rt (0 : Int32) (7 : Int32)) = (0 : Int32)) from hc7), if_neg (show ¬ ((100 : Int32) < (sx_I m 2 rt.toNatClampNeg)) from hc18), if_pos (show (fm_in md (0 : Int32) (5 : Int32)) = (0 : Int32) from hc27)]
        unfold fm_drift
        rw [if_pos e]
        exact ⟨rfl, rfl⟩
      · skip
        refine pj_J.go (oX4_drift G) 3 rfl trivial ?_
        refine pj_J.cal0 kX4_drift_34 (c_X4_in n (1 : Int32) (12 : Int32)) trivial pj_le0 pj_le0 pj_le0 ?_
        refine pj_J.go (oX4_drift G) 1 rfl trivial ?_
        refine pj_J.ite (fun hc37 => ?_) (fun hc37 => ?_)
        · skip
          refine pj_J.go (oX4_drift G) 4 rfl trivial ?_
          refine pj_J.cal0 kX4_drift_72 (c_X4_isRefused (m := m) (0 : Int32)) ⟨_, _, _, rfl, rfl⟩ pj_le0 pj_le0 pj_le0 ?_
          refine pj_J.go (oX4_drift G) 1 rfl trivial ?_
          refine pj_J.neg (fun e => absurd (show (1 : Int32) = 0 from e) (by decide)) ?_
          refine pj_J.go (oX4_drift G) 1 rfl trivial ?_
          refine pj_iret dX4_drift_79 rfl ?_
          show _ = _ ∧ _ = _
          have e : fm_drGood m rt md n most wh = 0 := by unfold fm_drGood; rw [if_neg (show ¬ ((fm_in rt (0 : Int32) (7 : Int32)) = (0 : Int32)) from hc7), if_neg (show ¬ ((100 : Int32) < (sx_I m 2 rt.toNatClampNeg)) from hc18), if_neg (show ¬ ((fm_in md (0 : Int32) (5 : Int32)) = (0 : Int32)) from hc27), if_pos (show (fm_in n (1 : Int32) (12 : Int32)) = (0 : Int32) from hc37)]
          unfold fm_drift
          rw [if_pos e]
          exact ⟨rfl, rfl⟩
        · skip
          refine pj_J.go (oX4_drift G) 3 rfl trivial ?_
          refine pj_J.cal0 kX4_drift_46 (c_X4_in most (0 : Int32) (1000 : Int32)) trivial pj_le0 pj_le0 pj_le0 ?_
          refine pj_J.go (oX4_drift G) 1 rfl trivial ?_
          refine pj_J.ite (fun hc49 => ?_) (fun hc49 => ?_)
          · skip
            refine pj_J.go (oX4_drift G) 4 rfl trivial ?_
            refine pj_J.cal0 kX4_drift_72 (c_X4_isRefused (m := m) (0 : Int32)) ⟨_, _, _, rfl, rfl⟩ pj_le0 pj_le0 pj_le0 ?_
            refine pj_J.go (oX4_drift G) 1 rfl trivial ?_
            refine pj_J.neg (fun e => absurd (show (1 : Int32) = 0 from e) (by decide)) ?_
            refine pj_J.go (oX4_drift G) 1 rfl trivial ?_
            refine pj_iret dX4_drift_79 rfl ?_
            show _ = _ ∧ _ = _
            have e : fm_drGood m rt md n most wh = 0 := by unfold fm_drGood; rw [if_neg (show ¬ ((fm_in rt (0 : Int32) (7 : Int32)) = (0 : Int32)) from hc7), if_neg (show ¬ ((100 : Int32) < (sx_I m 2 rt.toNatClampNeg)) from hc18), if_neg (show ¬ ((fm_in md (0 : Int32) (5 : Int32)) = (0 : Int32)) from hc27), if_neg (show ¬ ((fm_in n (1 : Int32) (12 : Int32)) = (0 : Int32)) from hc37), if_pos (show (fm_in most (0 : Int32) (1000 : Int32)) = (0 : Int32) from hc49)]
            unfold fm_drift
            rw [if_pos e]
            exact ⟨rfl, rfl⟩
          · skip
            refine pj_J.go (oX4_drift G) 3 rfl trivial ?_
            refine pj_J.cal0 kX4_drift_56 (c_X4_in wh (0 : Int32) (1 : Int32)) trivial pj_le0 pj_le0 pj_le0 ?_
            refine pj_J.go (oX4_drift G) 1 rfl trivial ?_
            refine pj_J.ite (fun hc59 => ?_) (fun hc59 => ?_)
            · skip
              refine pj_J.go (oX4_drift G) 4 rfl trivial ?_
              refine pj_J.cal0 kX4_drift_72 (c_X4_isRefused (m := m) (0 : Int32)) ⟨_, _, _, rfl, rfl⟩ pj_le0 pj_le0 pj_le0 ?_
              refine pj_J.go (oX4_drift G) 1 rfl trivial ?_
              refine pj_J.neg (fun e => absurd (show (1 : Int32) = 0 from e) (by decide)) ?_
              refine pj_J.go (oX4_drift G) 1 rfl trivial ?_
              refine pj_iret dX4_drift_79 rfl ?_
              show _ = _ ∧ _ = _
              have e : fm_drGood m rt md n most wh = 0 := by unfold fm_drGood; rw [if_neg (show ¬ ((fm_in rt (0 : Int32) (7 : Int32)) = (0 : Int32)) from hc7), if_neg (show ¬ ((100 : Int32) < (sx_I m 2 rt.toNatClampNeg)) from hc18), if_neg (show ¬ ((fm_in md (0 : Int32) (5 : Int32)) = (0 : Int32)) from hc27), if_neg (show ¬ ((fm_in n (1 : Int32) (12 : Int32)) = (0 : Int32)) from hc37), if_neg (show ¬ ((fm_in most (0 : Int32) (1000 : Int32)) = (0 : Int32)) from hc49), if_pos (show (fm_in wh (0 : Int32) (1 : Int32)) = (0 : Int32) from hc59)]
              unfold fm_drift
              rw [if_pos e]
              exact ⟨rfl, rfl⟩
            · skip
              refine pj_J.go (oX4_drift G) 5 rfl trivial ?_
              refine pj_J.cal0 kX4_drift_72 (c_X4_isRefused (m := m) (1 : Int32)) ⟨_, _, _, rfl, rfl⟩ pj_le0 pj_le0 pj_le0 ?_
              refine pj_J.go (oX4_drift G) 1 rfl trivial ?_
              refine pj_J.pos (rfl) ?_
              refine pj_J.go (oX4_drift G) 16 rfl ⟨by exact fm_in_vp (n := 7) hc7, by exact fm_in_vp (n := 7) hc7, trivial⟩ ?_
              refine pj_J.ite (fun hc104 => ?_) (fun hc104 => ?_)
              · skip
                refine pj_J.go (oX4_drift G) 5 rfl trivial ?_
                have e : fm_drGood m rt md n most wh = 1 := by unfold fm_drGood; rw [if_neg (show ¬ ((fm_in rt (0 : Int32) (7 : Int32)) = (0 : Int32)) from hc7), if_neg (show ¬ ((100 : Int32) < (sx_I m 2 rt.toNatClampNeg)) from hc18), if_neg (show ¬ ((fm_in md (0 : Int32) (5 : Int32)) = (0 : Int32)) from hc27), if_neg (show ¬ ((fm_in n (1 : Int32) (12 : Int32)) = (0 : Int32)) from hc37), if_neg (show ¬ ((fm_in most (0 : Int32) (1000 : Int32)) = (0 : Int32)) from hc49), if_neg (show ¬ ((fm_in wh (0 : Int32) (1 : Int32)) = (0 : Int32)) from hc59)]
                obtain ⟨N, hN1, hN, hn⟩ := fm_in_1n (n := 12) hc37
                obtain ⟨X, hX, hm⟩ := fm_in_nI (n := 1000) hc49
                have hrt := fm_in_vp (n := 7) hc7
                obtain ⟨b, hb1, hb, hbq⟩ := hq _ (vp_lt hrt)
                obtain ⟨a, ha, hap⟩ := hp _ (vp_lt hrt)
                have hb100 : b ≤ 100 := by
                  rw [hbq, Int32.lt_iff_toInt_lt, nI_toInt (by omega)] at hc18
                  have : (100 : Int32).toInt = 100 := rfl
                  omega
                have hmm : (2 : Int32) * sx_I m 2 rt.toNatClampNeg = nI (2 * b) := by rw [hbq]; exact pk_mul 2 b
                refine pj_J.drop (L' := [some (.ref 59), some (.int rt), some (.int md), some (.int n), some (.int most), some (.int wh), some (.int 1), some (.int (sx_I m 1 rt.toNatClampNeg)), some (.int (sx_I m 2 rt.toNatClampNeg)), some (.int (2 * sx_I m 2 rt.toNatClampNeg)), some (.long 1), none, some (.int (nI 0)), none, none, none, none, none]) ⟨rfl, rfl, rfl, rfl, rfl, rfl, rfl, rfl, rfl, rfl, rfl, rfl, trivial⟩ ?_
                refine lp_drZ (m := sx_si m 0 0) rt md n most wh 1 (sx_I m 1 rt.toNatClampNeg) (sx_I m 2 rt.toNatClampNeg) (2 * sx_I m 2 rt.toNatClampNeg) 1 (2 * b) (by omega) hmm (by rw [hbq]; exact fm_nz64 hb1 (by omega)) N hN hn a ha hap (by omega) X hX hm ?_
                show _ = _ ∧ _ = _
                unfold fm_drift
                rw [if_neg (by rw [e]; decide), if_pos (show wh = 0 from hc104)]
                unfold fm_drV fm_drS
                rw [hmm, nI_clamp (by omega), hn, nI_clamp (by omega), hm, nI_clamp (by omega)]
                exact ⟨rfl, rfl⟩
              · skip
                refine pj_J.go (oX4_drift G) 4 rfl trivial ?_
                have e : fm_drGood m rt md n most wh = 1 := by unfold fm_drGood; rw [if_neg (show ¬ ((fm_in rt (0 : Int32) (7 : Int32)) = (0 : Int32)) from hc7), if_neg (show ¬ ((100 : Int32) < (sx_I m 2 rt.toNatClampNeg)) from hc18), if_neg (show ¬ ((fm_in md (0 : Int32) (5 : Int32)) = (0 : Int32)) from hc27), if_neg (show ¬ ((fm_in n (1 : Int32) (12 : Int32)) = (0 : Int32)) from hc37), if_neg (show ¬ ((fm_in most (0 : Int32) (1000 : Int32)) = (0 : Int32)) from hc49), if_neg (show ¬ ((fm_in wh (0 : Int32) (1 : Int32)) = (0 : Int32)) from hc59)]
                obtain ⟨N, hN1, hN, hn⟩ := fm_in_1n (n := 12) hc37
                obtain ⟨X, hX, hm⟩ := fm_in_nI (n := 1000) hc49
                have hrt := fm_in_vp (n := 7) hc7
                obtain ⟨b, hb1, hb, hbq⟩ := hq _ (vp_lt hrt)
                obtain ⟨a, ha, hap⟩ := hp _ (vp_lt hrt)
                have hb100 : b ≤ 100 := by
                  rw [hbq, Int32.lt_iff_toInt_lt, nI_toInt (by omega)] at hc18
                  have : (100 : Int32).toInt = 100 := rfl
                  omega
                have hmm : (2 : Int32) * sx_I m 2 rt.toNatClampNeg = nI (2 * b) := by rw [hbq]; exact pk_mul 2 b
                refine pj_J.drop (L' := [some (.ref 59), some (.int rt), some (.int md), some (.int n), some (.int most), some (.int wh), some (.int 1), some (.int (sx_I m 1 rt.toNatClampNeg)), some (.int (sx_I m 2 rt.toNatClampNeg)), some (.int (2 * sx_I m 2 rt.toNatClampNeg)), some (.long (-1)), none, some (.int (nI 0)), none, none, none, none, none]) ⟨rfl, rfl, rfl, rfl, rfl, rfl, rfl, rfl, rfl, rfl, rfl, rfl, trivial⟩ ?_
                refine lp_drZ (m := sx_si m 0 0) rt md n most wh 1 (sx_I m 1 rt.toNatClampNeg) (sx_I m 2 rt.toNatClampNeg) (2 * sx_I m 2 rt.toNatClampNeg) (-1) (2 * b) (by omega) hmm (by rw [hbq]; exact fm_nz64 hb1 (by omega)) N hN hn a ha hap (by omega) X hX hm ?_
                show _ = _ ∧ _ = _
                unfold fm_drift
                rw [if_neg (by rw [e]; decide), if_neg (show ¬ wh = 0 from hc104)]
                unfold fm_drV fm_drS
                rw [hmm, nI_clamp (by omega), hn, nI_clamp (by omega), hm, nI_clamp (by omega)]
                exact ⟨rfl, rfl⟩
