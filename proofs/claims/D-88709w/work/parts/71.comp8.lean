/-! PennyJudge: order, same (by tools/gen_r4.py) -/
set_option maxRecDepth 100000
def fc_orP (k : Nat) (w : sx_M) : sx_M := sx_sI w 16 (upd (sx_I w 16) (nI k).toNatClampNeg (nI k))
def fc_orT (k : Nat) (w : sx_M) : sx_M := sx_sI w 17 (upd (sx_I w 17) (nI k).toNatClampNeg (sx_I w 2 (sx_I w 16 (nI k).toNatClampNeg).toNatClampNeg))
theorem ly_coP {G : pj_G} {d : Nat} {c : sx_C} {m : sx_M} {o : Nat → Int64} {D : pj_H} {Q : pj_O → pj_H → Prop} {p : Int32} {pi : Nat} (n : Nat) (hn : n ≤ 6) (en : sx_i c.1 3 = nI n) (k : Nat) (hk : k < n) (kk : pj_J G mX1_order (d + 5) 31 [some (.ref 2), some (.int p), some (.ref (pi + 98)), some (.int (nI k + 1)), none, none, none] [] (sx_mk (sx_sM c (fc_orP k c.1)) m o D) 0 0 Q) : pj_J G mX1_order (d + 5) 31 [some (.ref 2), some (.int p), some (.ref (pi + 98)), some (.int (nI k)), none, none, none] [] (sx_mk c m o D) 0 0 Q := by
  refine pj_J.go (oX1_order G) 4 rfl trivial ?_
  refine pj_J.neg (by rw [en]; exact nI_lt_lit hk (by omega)) ?_
  refine pj_J.go (oX1_order G) 7 rfl ⟨by exact vp_in_lit (by omega) (by decide), trivial⟩ ?_
  exact kk
theorem lz_coP {G : pj_G} {d : Nat} {c : sx_C} {m : sx_M} {o : Nat → Int64} {D : pj_H} {Q : pj_O → pj_H → Prop} {p : Int32} {pi : Nat} (n : Nat) (hn : n ≤ 6) (en : sx_i c.1 3 = nI n) (kk : pj_J G mX1_order (d + 5) 52 [some (.ref 2), some (.int p), some (.ref (pi + 98)), none, none, none, none] [] (sx_mk c m o D) 0 0 Q) : pj_J G mX1_order (d + 5) 31 [some (.ref 2), some (.int p), some (.ref (pi + 98)), some (.int (nI n)), none, none, none] [] (sx_mk c m o D) 0 0 Q := by
  refine pj_J.go (oX1_order G) 4 rfl trivial ?_
  refine pj_J.pos (by rw [en]; exact nI_ge_lit (Nat.le_refl _) (by omega)) ?_
  exact pj_J.drp kk ⟨rfl, rfl, rfl, trivial⟩
theorem ly_coT {G : pj_G} {d : Nat} {c : sx_C} {m : sx_M} {o : Nat → Int64} {D : pj_H} {Q : pj_O → pj_H → Prop} {p : Int32} {pi : Nat} {wl z : Int32} (n : Nat) (hn : n ≤ 6) (en : sx_i c.1 3 = nI n) (hpl : ∀ k, k < n → vp_in (sx_I c.1 16 k) 12) (k : Nat) (hk : k < n) (kk : pj_J G mX1_order (d + 5) 111 [some (.ref 2), some (.int p), some (.ref (pi + 98)), some (.int wl), some (.int z), some (.int (nI k + 1)), none] [] (sx_mk (sx_sM c (fc_orT k c.1)) m o D) 0 0 Q) : pj_J G mX1_order (d + 5) 111 [some (.ref 2), some (.int p), some (.ref (pi + 98)), some (.int wl), some (.int z), some (.int (nI k)), none] [] (sx_mk c m o D) 0 0 Q := by
  refine pj_J.go (oX1_order G) 4 rfl trivial ?_
  refine pj_J.neg (by rw [en]; exact nI_lt_lit hk (by omega)) ?_
  refine pj_J.go (oX1_order G) 13 rfl ⟨by exact vp_in_lit (by omega) (by decide), by exact (by rw [nI_clamp (by omega)]; exact hpl k hk), by exact vp_in_lit (by omega) (by decide), trivial⟩ ?_
  exact kk
theorem lz_coT {G : pj_G} {d : Nat} {c : sx_C} {m : sx_M} {o : Nat → Int64} {D : pj_H} {Q : pj_O → pj_H → Prop} {p : Int32} {pi : Nat} {wl z : Int32} (n : Nat) (hn : n ≤ 6) (en : sx_i c.1 3 = nI n) (kk : pj_J G mX1_order (d + 5) 145 [some (.ref 2), some (.int p), some (.ref (pi + 98)), some (.int wl), some (.int z), none, none] [] (sx_mk c m o D) 0 0 Q) : pj_J G mX1_order (d + 5) 111 [some (.ref 2), some (.int p), some (.ref (pi + 98)), some (.int wl), some (.int z), some (.int (nI n)), none] [] (sx_mk c m o D) 0 0 Q := by
  refine pj_J.go (oX1_order G) 4 rfl trivial ?_
  refine pj_J.pos (by rw [en]; exact nI_ge_lit (Nat.le_refl _) (by omega)) ?_
  exact pj_J.drp kk ⟨rfl, rfl, rfl, rfl, rfl, trivial⟩
/-- a run of the whole bill that stands in f, from nothing -/
def fc_orR (A : fp_A) (n nl : Nat) (w u : sx_M) (f : Nat → Int32) : Int32 × sx_M × sx_M := (if (fp_run A n w (fr_bare (fr_bill u f nl))).1 < 0 then 0 else 1, (fp_run A n w (fr_bare (fr_bill u f nl))).2)
def fc_orOk (A : fp_A) (n nl : Nat) (w u : sx_M) (f : Nat → Int32) : Prop := fa_runA A n 0 (w, fr_begin (fr_bare (fr_bill u f nl)))
theorem lx_coA {G : pj_G} {d : Nat} {c : sx_C} {m : sx_M} {o : Nat → Int64} {D : pj_H} {Q : pj_O → pj_H → Prop} {p : Int32} {pi : Nat} (n : Nat) (hn : n ≤ 6) (en : sx_i c.1 3 = nI n) {na : Nat} {A : fp_A} {cn cd : Int64} (hP : fp_prog D pi na A cn cd) (hO : fc_orOk A na n c.1 (sx_R c 1) (sx_I c.1 2)) (kk : pj_J G mX1_order (d + 5) 94 [some (.ref 2), some (.int p), some (.ref (pi + 98)), some (.int ((fc_orR A na n c.1 (sx_R c 1) (sx_I c.1 2)).1)), some (.int 0), none, none] [] (sx_mk (sx_sR (sx_sM c (fc_orR A na n c.1 (sx_R c 1) (sx_I c.1 2)).2.1) 1 (fc_orR A na n c.1 (sx_R c 1) (sx_I c.1 2)).2.2) m o D) 0 0 Q) : pj_J G mX1_order (d + 5) 52 [some (.ref 2), some (.int p), some (.ref (pi + 98)), none, none, none, none] [] (sx_mk c m o D) 0 0 Q := by
  refine pj_J.go (oX1_order G) 6 rfl trivial ?_
  refine pj_J.seq (st' := [.int (nI n), .ref 5, .ref 21]) (by rw [en] <;> rfl) ?_
  refine pj_J.cal0 kX1_order_64 (c_X2_bill_5_1 (c := c) n (by omega)) ⟨_, _, _, rfl, rfl⟩ pj_le0 pj_le0 pj_le0 ?_
  refine pj_J.go (oX1_order G) 2 rfl trivial ?_
  refine pj_J.cal0 kX1_order_71 (c_X2_bare_1 (c := (sx_sR c 1 (fr_bill (sx_R c 1) (sx_I c.1 2) n)))) ⟨_, _, _, rfl, rfl⟩ pj_le0 pj_le0 pj_le0 ?_
  refine pj_J.go (oX1_order G) 3 rfl trivial ?_
  refine pj_J.cal0 kX1_order_79 (c_X5_run_1 (c := sx_sR c 1 (fr_bare (fr_bill (sx_R c 1) (sx_I c.1 2) n))) hP hO) ⟨_, _, _, rfl, hP.2.choose_spec.choose_spec.1⟩ pj_le0 pj_le0 pj_le0 ?_
  refine pj_J.go (oX1_order G) 1 rfl trivial ?_
  refine pj_J.ite (fun hc82 => ?_) (fun hc82 => ?_)
  · skip
    refine pj_J.go (oX1_order G) 4 rfl trivial ?_
    have e : (fc_orR A na n c.1 (sx_R c 1) (sx_I c.1 2)) = (0, (fp_run A na c.1 (fr_bare (fr_bill (sx_R c 1) (sx_I c.1 2) n))).2) := by unfold fc_orR; rw [if_pos (show (fp_run A na c.1 (fr_bare (fr_bill (sx_R c 1) (sx_I c.1 2) n))).1 < (0 : Int32) from hc82)]
    rw [e] at kk
    exact pj_J.drp kk ⟨rfl, rfl, rfl, rfl, rfl, trivial⟩
  · skip
    refine pj_J.go (oX1_order G) 5 rfl trivial ?_
    have e : (fc_orR A na n c.1 (sx_R c 1) (sx_I c.1 2)) = (1, (fp_run A na c.1 (fr_bare (fr_bill (sx_R c 1) (sx_I c.1 2) n))).2) := by unfold fc_orR; rw [if_neg (show ¬ ((fp_run A na c.1 (fr_bare (fr_bill (sx_R c 1) (sx_I c.1 2) n))).1 < (0 : Int32)) from hc82)]
    rw [e] at kk
    exact pj_J.drp kk ⟨rfl, rfl, rfl, rfl, rfl, trivial⟩
theorem lx_coB {G : pj_G} {d : Nat} {c : sx_C} {m : sx_M} {o : Nat → Int64} {D : pj_H} {Q : pj_O → pj_H → Prop} {p : Int32} {pi : Nat} {wl z : Int32} (n : Nat) (hn : n ≤ 6) (en : sx_i c.1 3 = nI n) {na : Nat} {A : fp_A} {cn cd : Int64} (hP : fp_prog D pi na A cn cd) (hO : fc_orOk A na n c.1 (sx_R c 2) (sx_I c.1 17)) (kk : pj_J G mX1_order (d + 5) 185 [some (.ref 2), some (.int p), some (.ref (pi + 98)), some (.int wl), some (.int z), some (.int ((fc_orR A na n c.1 (sx_R c 2) (sx_I c.1 17)).1)), none] [] (sx_mk (sx_sR (sx_sM c (fc_orR A na n c.1 (sx_R c 2) (sx_I c.1 17)).2.1) 2 (fc_orR A na n c.1 (sx_R c 2) (sx_I c.1 17)).2.2) m o D) 0 0 Q) : pj_J G mX1_order (d + 5) 145 [some (.ref 2), some (.int p), some (.ref (pi + 98)), some (.int wl), some (.int z), none, none] [] (sx_mk c m o D) 0 0 Q := by
  refine pj_J.go (oX1_order G) 6 rfl trivial ?_
  refine pj_J.seq (st' := [.int (nI n), .ref 46, .ref 32]) (by rw [en] <;> rfl) ?_
  refine pj_J.cal0 kX1_order_157 (c_X2_bill_46_2 (c := c) n (by omega)) ⟨_, _, _, rfl, rfl⟩ pj_le0 pj_le0 pj_le0 ?_
  refine pj_J.go (oX1_order G) 2 rfl trivial ?_
  refine pj_J.cal0 kX1_order_164 (c_X2_bare_2 (c := (sx_sR c 2 (fr_bill (sx_R c 2) (sx_I c.1 17) n)))) ⟨_, _, _, rfl, rfl⟩ pj_le0 pj_le0 pj_le0 ?_
  refine pj_J.go (oX1_order G) 3 rfl trivial ?_
  refine pj_J.cal0 kX1_order_172 (c_X5_run_2 (c := sx_sR c 2 (fr_bare (fr_bill (sx_R c 2) (sx_I c.1 17) n))) hP hO) ⟨_, _, _, rfl, hP.2.choose_spec.choose_spec.1⟩ pj_le0 pj_le0 pj_le0 ?_
  refine pj_J.go (oX1_order G) 1 rfl trivial ?_
  refine pj_J.ite (fun hc175 => ?_) (fun hc175 => ?_)
  · skip
    refine pj_J.go (oX1_order G) 2 rfl trivial ?_
    have e : (fc_orR A na n c.1 (sx_R c 2) (sx_I c.1 17)) = (0, (fp_run A na c.1 (fr_bare (fr_bill (sx_R c 2) (sx_I c.1 17) n))).2) := by unfold fc_orR; rw [if_pos (show (fp_run A na c.1 (fr_bare (fr_bill (sx_R c 2) (sx_I c.1 17) n))).1 < (0 : Int32) from hc175)]
    rw [e] at kk
    exact pj_J.drp kk ⟨rfl, rfl, rfl, rfl, rfl, rfl, trivial⟩
  · skip
    refine pj_J.go (oX1_order G) 3 rfl trivial ?_
    have e : (fc_orR A na n c.1 (sx_R c 2) (sx_I c.1 17)) = (1, (fp_run A na c.1 (fr_bare (fr_bill (sx_R c 2) (sx_I c.1 17) n))).2) := by unfold fc_orR; rw [if_neg (show ¬ ((fp_run A na c.1 (fr_bare (fr_bill (sx_R c 2) (sx_I c.1 17) n))).1 < (0 : Int32)) from hc175)]
    rw [e] at kk
    exact pj_J.drp kk ⟨rfl, rfl, rfl, rfl, rfl, rfl, trivial⟩
theorem lz_coE {G : pj_G} {d : Nat} {c : sx_C} {m : sx_M} {o : Nat → Int64} {D : pj_H} {Q : pj_O → pj_H → Prop} {p wl z : Int32} {pi : Nat} (n : Nat) (hn : n ≤ 6) (en : sx_i c.1 3 = nI n) (s : Int32) (c1 : sx_C) (ct : pj_Rt G mX1_turn (d + 4) [.ref 2, .int (nI n)] (sx_mk c m o D) 0 0 (some (.int s)) (sx_mk c1 m o D)) (hs : s = 0) (q : Q (.inl (some (.int 9999999))) (sx_mk c1 m o D)) : pj_J G mX1_order (d + 5) 94 [some (.ref 2), some (.int p), some (.ref (pi + 98)), some (.int wl), some (.int z), none, none] [] (sx_mk c m o D) 0 0 Q := by
  refine pj_J.go (oX1_order G) 3 rfl trivial ?_
  refine pj_J.seq (st' := [.int (nI n), .ref 2]) (by rw [en]) ?_
  refine pj_J.cal0 kX1_order_99 ct ⟨_, _, _, rfl, rfl⟩ pj_le0 pj_le0 pj_le0 ?_
  refine pj_J.go (oX1_order G) 1 rfl trivial ?_
  refine pj_J.pos (hs) ?_
  refine pj_J.go (oX1_order G) 1 rfl trivial ?_
  exact pj_iret dX1_order_265 rfl q
theorem lx_coT {G : pj_G} {d : Nat} {c : sx_C} {m : sx_M} {o : Nat → Int64} {D : pj_H} {Q : pj_O → pj_H → Prop} {p wl z : Int32} {pi : Nat} (n : Nat) (hn : n ≤ 6) (en : sx_i c.1 3 = nI n) (s : Int32) (c1 : sx_C) (ct : pj_Rt G mX1_turn (d + 4) [.ref 2, .int (nI n)] (sx_mk c m o D) 0 0 (some (.int s)) (sx_mk c1 m o D)) (hs : ¬ s = 0) (kk : pj_J G mX1_order (d + 5) 111 [some (.ref 2), some (.int p), some (.ref (pi + 98)), some (.int wl), some (.int (z + 1)), some (.int (nI 0)), none] [] (sx_mk c1 m o D) 0 0 Q) : pj_J G mX1_order (d + 5) 94 [some (.ref 2), some (.int p), some (.ref (pi + 98)), some (.int wl), some (.int z), none, none] [] (sx_mk c m o D) 0 0 Q := by
  refine pj_J.go (oX1_order G) 3 rfl trivial ?_
  refine pj_J.seq (st' := [.int (nI n), .ref 2]) (by rw [en]) ?_
  refine pj_J.cal0 kX1_order_99 ct ⟨_, _, _, rfl, rfl⟩ pj_le0 pj_le0 pj_le0 ?_
  refine pj_J.go (oX1_order G) 1 rfl trivial ?_
  refine pj_J.neg (hs) ?_
  refine pj_J.go (oX1_order G) 3 rfl trivial ?_
  exact kk
def fc_orD (wl its : Int32) (u y : sx_M) : Int32 := if its = wl then (if wl = 0 then 0 else if fc_alike2 u y 1 = 0 then 1 else 0) else 1
theorem lx_coD {G : pj_G} {d : Nat} {c : sx_C} {m : sx_M} {o : Nat → Int64} {D : pj_H} {Q : pj_O → pj_H → Prop} {p wl z its : Int32} {pi : Nat} (q : ¬ fc_orD wl its (sx_R c 1) (sx_R c 2) = 0 → Q (.inl (some (.int z))) (sx_mk c m o D)) (kk : fc_orD wl its (sx_R c 1) (sx_R c 2) = 0 → pj_J G mX1_order (d + 5) 212 [some (.ref 2), some (.int p), some (.ref (pi + 98)), some (.int wl), some (.int z), some (.int its), some (.int 0)] [] (sx_mk c m o D) 0 0 Q) : pj_J G mX1_order (d + 5) 185 [some (.ref 2), some (.int p), some (.ref (pi + 98)), some (.int wl), some (.int z), some (.int its), none] [] (sx_mk c m o D) 0 0 Q := by
  refine pj_J.go (oX1_order G) 3 rfl trivial ?_
  refine pj_J.ite (fun hc188 => ?_) (fun hc188 => ?_)
  · skip
    refine pj_J.go (oX1_order G) 2 rfl trivial ?_
    refine pj_J.ite (fun hc195 => ?_) (fun hc195 => ?_)
    · skip
      refine pj_J.go (oX1_order G) 2 rfl trivial ?_
      have e : fc_orD wl its (sx_R c 1) (sx_R c 2) = 0 := by unfold fc_orD; rw [if_pos (show its = wl from hc188), if_pos (show wl = (0 : Int32) from hc195)]
      exact kk e
    · skip
      refine pj_J.go (oX1_order G) 2 rfl trivial ?_
      refine pj_J.cal0 kX1_order_200 (c_X1_alike2 (c := c) 1) ⟨_, _, _, rfl, rfl⟩ pj_le0 pj_le0 pj_le0 ?_
      refine pj_J.go (oX1_order G) 1 rfl trivial ?_
      refine pj_J.ite (fun hc203 => ?_) (fun hc203 => ?_)
      · skip
        refine pj_J.go (oX1_order G) 1 rfl trivial ?_
        have e : fc_orD wl its (sx_R c 1) (sx_R c 2) = 1 := by unfold fc_orD; rw [if_pos (show its = wl from hc188), if_neg (show ¬ (wl = (0 : Int32)) from hc195), if_pos (show (fc_alike2 (sx_R c 1) (sx_R c 2) 1) = (0 : Int32) from hc203)]
        exact pj_iret dX1_order_208 rfl (q (by rw [e]; decide))
      · skip
        refine pj_J.go (oX1_order G) 2 rfl trivial ?_
        have e : fc_orD wl its (sx_R c 1) (sx_R c 2) = 0 := by unfold fc_orD; rw [if_pos (show its = wl from hc188), if_neg (show ¬ (wl = (0 : Int32)) from hc195), if_neg (show ¬ ((fc_alike2 (sx_R c 1) (sx_R c 2) 1) = (0 : Int32)) from hc203)]
        exact kk e
  · skip
    refine pj_J.go (oX1_order G) 1 rfl trivial ?_
    have e : fc_orD wl its (sx_R c 1) (sx_R c 2) = 1 := by unfold fc_orD; rw [if_neg (show ¬ (its = wl) from hc188)]
    exact pj_iret dX1_order_193 rfl (q (by rw [e]; decide))
abbrev fc_orE (w u y : sx_M) (k : Nat) : Prop := sx_L y 7 (nI k).toNatClampNeg = sx_L u 7 (sx_I w 16 (nI k).toNatClampNeg).toNatClampNeg
theorem ly_coR {G : pj_G} {d : Nat} {c : sx_C} {m : sx_M} {o : Nat → Int64} {D : pj_H} {Q : pj_O → pj_H → Prop} {p wl z its : Int32} {pi : Nat} (n : Nat) (hn : n ≤ 6) (en : sx_i c.1 3 = nI n) (hpl : ∀ k, k < n → vp_in (sx_I c.1 16 k) 12) (k : Nat) (hk : k < n) (q : ¬ fc_orE c.1 (sx_R c 1) (sx_R c 2) k → Q (.inl (some (.int z))) (sx_mk c m o D)) (kk : fc_orE c.1 (sx_R c 1) (sx_R c 2) k → pj_J G mX1_order (d + 5) 212 [some (.ref 2), some (.int p), some (.ref (pi + 98)), some (.int wl), some (.int z), some (.int its), some (.int (nI k + 1))] [] (sx_mk c m o D) 0 0 Q) : pj_J G mX1_order (d + 5) 212 [some (.ref 2), some (.int p), some (.ref (pi + 98)), some (.int wl), some (.int z), some (.int its), some (.int (nI k))] [] (sx_mk c m o D) 0 0 Q := by
  refine pj_J.go (oX1_order G) 4 rfl trivial ?_
  refine pj_J.neg (by rw [en]; exact nI_lt_lit hk (by omega)) ?_
  refine pj_J.go (oX1_order G) 15 rfl ⟨by exact vp_in_lit (by omega) (by decide), by exact vp_in_lit (by omega) (by decide), by exact (by rw [nI_clamp (by omega)]; exact hpl k hk), trivial⟩ ?_
  refine pj_J.ite (fun hc247 => ?_) (fun hc247 => ?_)
  · simp only [pj_lc_eq] at hc247
    refine pj_J.go (oX1_order G) 2 rfl trivial ?_
    exact kk hc247
  · simp only [pj_lc_eq] at hc247
    refine pj_J.go (oX1_order G) 1 rfl trivial ?_
    exact pj_iret dX1_order_252 rfl (q hc247)
theorem lz_coR {G : pj_G} {d : Nat} {c : sx_C} {m : sx_M} {o : Nat → Int64} {D : pj_H} {Q : pj_O → pj_H → Prop} {p wl z its : Int32} {pi : Nat} (n : Nat) (hn : n ≤ 6) (en : sx_i c.1 3 = nI n) (kk : pj_J G mX1_order (d + 5) 94 [some (.ref 2), some (.int p), some (.ref (pi + 98)), some (.int wl), some (.int z), none, none] [] (sx_mk c m o D) 0 0 Q) : pj_J G mX1_order (d + 5) 212 [some (.ref 2), some (.int p), some (.ref (pi + 98)), some (.int wl), some (.int z), some (.int its), some (.int (nI n))] [] (sx_mk c m o D) 0 0 Q := by
  refine pj_J.go (oX1_order G) 4 rfl trivial ?_
  refine pj_J.pos (by rw [en]; exact nI_ge_lit (Nat.le_refl _) (by omega)) ?_
  refine pj_J.go (oX1_order G) 1 rfl trivial ?_
  exact pj_J.drp kk ⟨rfl, rfl, rfl, rfl, rfl, trivial⟩
def fc_orQ (w u y : sx_M) : Nat → Nat → Int32
  | 0, _ => 0
  | e + 1, k => if fc_orE w u y k then fc_orQ w u y e (k + 1) else 1
theorem lp_coR {G : pj_G} {d : Nat} {c : sx_C} {m : sx_M} {o : Nat → Int64} {D : pj_H} {Q : pj_O → pj_H → Prop} {p wl z its : Int32} {pi : Nat} (n : Nat) (hn : n ≤ 6) (en : sx_i c.1 3 = nI n) (hpl : ∀ k, k < n → vp_in (sx_I c.1 16 k) 12) : ∀ e k, k + e = n → (¬ fc_orQ c.1 (sx_R c 1) (sx_R c 2) e k = 0 → Q (.inl (some (.int z))) (sx_mk c m o D)) → (fc_orQ c.1 (sx_R c 1) (sx_R c 2) e k = 0 → pj_J G mX1_order (d + 5) 94 [some (.ref 2), some (.int p), some (.ref (pi + 98)), some (.int wl), some (.int z), none, none] [] (sx_mk c m o D) 0 0 Q) → pj_J G mX1_order (d + 5) 212 [some (.ref 2), some (.int p), some (.ref (pi + 98)), some (.int wl), some (.int z), some (.int its), some (.int (nI k))] [] (sx_mk c m o D) 0 0 Q := by
  intro e
  induction e with
  | zero =>
    intro k hk q kk
    have : k = n := by omega
    subst this
    exact lz_coR k hn en (kk rfl)
  | succ e ih =>
    intro k hk q kk
    unfold fc_orQ at q kk
    refine ly_coR n hn en hpl k (by omega) (fun h => ?_) (fun h => ?_)
    · rw [if_neg h] at q
      exact q (by decide)
    · rw [if_pos h] at q kk
      rw [nI_add1]
      exact ih (k + 1) (by omega) q kk
/-- one order: its run's answer, the judge's own, run two -/
def fc_orS (A : fp_A) (na n : Nat) (w y : sx_M) (g : Nat → Int32) : Int32 × sx_M × sx_M := fc_orR A na n (it_up fc_orT n 0 (sx_sI w 16 g)) y (sx_I (it_up fc_orT n 0 (sx_sI w 16 g)) 17)
def fc_orSok (A : fp_A) (na n : Nat) (w y : sx_M) (g : Nat → Int32) : Prop := fc_orOk A na n (it_up fc_orT n 0 (sx_sI w 16 g)) y (sx_I (it_up fc_orT n 0 (sx_sI w 16 g)) 17)
def fc_orL (A : fp_A) (na n : Nat) (wl : Int32) (u : sx_M) : Nat → Nat → sx_M × sx_M → Int32 × sx_M × sx_M
  | 0, _, z => (0, z)
  | e + 1, k, z => match fm_turn n (sx_I z.1 16) with
    | none => (9999999, z)
    | some g => if fc_orD wl (fc_orS A na n z.1 z.2 g).1 u (fc_orS A na n z.1 z.2 g).2.2 = 0 then (if fc_orQ (fc_orS A na n z.1 z.2 g).2.1 u (fc_orS A na n z.1 z.2 g).2.2 n 0 = 0 then fc_orL A na n wl u e (k + 1) (fc_orS A na n z.1 z.2 g).2 else (nI (k + 1), (fc_orS A na n z.1 z.2 g).2)) else (nI (k + 1), (fc_orS A na n z.1 z.2 g).2)
theorem lp_coL {G : pj_G} {d : Nat} {c : sx_C} {m : sx_M} {o : Nat → Int64} {D : pj_H} {Q : pj_O → pj_H → Prop} {p wl : Int32} {pi : Nat} (n : Nat) (hn : n ≤ 6) {na : Nat} {A : fp_A} {cn cd : Int64} (hP : fp_prog D pi na A cn cd) (I : sx_M × sx_M → Prop) (hI : ∀ z, I z → sx_i z.1 3 = nI n) (hT : ∀ z g, I z → fm_turn n (sx_I z.1 16) = some g → (∀ k, k < n → vp_in (g k) 12) ∧ fc_orSok A na n z.1 z.2 g ∧ I (fc_orS A na n z.1 z.2 g).2 ∧ sx_I (fc_orS A na n z.1 z.2 g).2.1 16 = g) :
    ∀ (e k : Nat) (z : sx_M × sx_M), I z → fm_ends n e (sx_I z.1 16) → Q (.inl (some (.int (fc_orL A na n wl (sx_R c 1) e k z).1))) (sx_mk (sx_sR (sx_sM c (fc_orL A na n wl (sx_R c 1) e k z).2.1) 2 (fc_orL A na n wl (sx_R c 1) e k z).2.2) m o D) → pj_J G mX1_order (d + 5) 94 [some (.ref 2), some (.int p), some (.ref (pi + 98)), some (.int wl), some (.int (nI k)), none, none] [] (sx_mk (sx_sR (sx_sM c z.1) 2 z.2) m o D) 0 0 Q := by
  intro e
  induction e with
  | zero => intro k z _ h; exact h.elim
  | succ e ih =>
    intro k z hi he hq
    have en := hI z hi
    have ct := c_X1_turn (G := G) (d := d + 3) (c := sx_sR (sx_sM c z.1) 2 z.2) (m := m) (o := o) (D := D) n hn
    unfold fc_orL at hq
    unfold fm_ends at he
    cases ht : fm_turn n (sx_I z.1 16) with
    | none =>
      rw [fc_turn_none (u := (sx_sR (sx_sM c z.1) 2 z.2).1) ht] at ct
      rw [ht] at hq
      exact lz_coE (c := sx_sR (sx_sM c z.1) 2 z.2) n hn en 0 _ ct rfl hq
    | some g =>
      rw [fc_turn_some (u := (sx_sR (sx_sM c z.1) 2 z.2).1) ht] at ct
      rw [ht] at hq he
      dsimp only at hq he
      obtain ⟨hg, hok, hi2, hg2⟩ := hT z g hi ht
      refine lx_coT (c := sx_sR (sx_sM c z.1) 2 z.2) n hn en 1 _ ct (by decide) ?_
      rw [nI_add1]
      refine pj_for (σ := sx_M) (fun (j : Nat) (w : sx_M) => pj_J G mX1_order (d + 5) 111 [some (.ref 2), some (.int p), some (.ref (pi + 98)), some (.int wl), some (.int (nI (k + 1))), some (.int (nI j)), none] [] (sx_mk (sx_sR (sx_sM c w) 2 z.2) m o D) 0 0 Q) fc_orT (fun _ w => sx_i w 3 = nI n ∧ sx_I w 16 = g) n (fun j w hj hw => ⟨hw, fun kk => ly_coT (c := sx_sR (sx_sM c w) 2 z.2) n hn hw.1 (by show ∀ k, k < n → vp_in (sx_I w 16 k) 12; rw [hw.2]; exact hg) j hj (by rw [nI_add1]; exact kk)⟩) n 0 (sx_sI z.1 16 g) (by simp) ⟨en, rfl⟩ (fun hw => ?_)
      refine lz_coT (c := sx_sR (sx_sM c (it_up fc_orT n 0 (sx_sI z.1 16 g))) 2 z.2) n hn hw.1 ?_
      refine lx_coB (c := sx_sR (sx_sM c (it_up fc_orT n 0 (sx_sI z.1 16 g))) 2 z.2) n hn hw.1 hP hok ?_
      refine lx_coD (c := sx_sR (sx_sM c (fc_orS A na n z.1 z.2 g).2.1) 2 (fc_orS A na n z.1 z.2 g).2.2) (fun h => ?_) (fun h => ?_)
      · rw [if_neg (show ¬ fc_orD wl (fc_orS A na n z.1 z.2 g).1 (sx_R c 1) (fc_orS A na n z.1 z.2 g).2.2 = 0 from h)] at hq
        exact hq
      · rw [if_pos (show fc_orD wl (fc_orS A na n z.1 z.2 g).1 (sx_R c 1) (fc_orS A na n z.1 z.2 g).2.2 = 0 from h)] at hq
        refine lp_coR (c := sx_sR (sx_sM c (fc_orS A na n z.1 z.2 g).2.1) 2 (fc_orS A na n z.1 z.2 g).2.2) n hn (hI _ hi2) (by show ∀ k, k < n → vp_in (sx_I (fc_orS A na n z.1 z.2 g).2.1 16 k) 12; rw [hg2]; exact hg) n 0 (by omega) (fun h2 => ?_) (fun h2 => ?_)
        · rw [if_neg (show ¬ fc_orQ (fc_orS A na n z.1 z.2 g).2.1 (sx_R c 1) (fc_orS A na n z.1 z.2 g).2.2 n 0 = 0 from h2)] at hq
          exact hq
        · rw [if_pos (show fc_orQ (fc_orS A na n z.1 z.2 g).2.1 (sx_R c 1) (fc_orS A na n z.1 z.2 g).2.2 n 0 = 0 from h2)] at hq
          exact ih (k + 1) _ hi2 (by rw [hg2]; exact he) hq
def fc_or0 (n : Nat) (w : sx_M) : sx_M := it_up fc_orP n 0 w
/-- order: its answer, the judge's own, runs one and two -/
def fc_order (A : fp_A) (na n e : Nat) (w u y : sx_M) : Int32 × sx_M × sx_M × sx_M := ((fc_orL A na n (fc_orR A na n (fc_or0 n w) u (sx_I (fc_or0 n w) 2)).1 (fc_orR A na n (fc_or0 n w) u (sx_I (fc_or0 n w) 2)).2.2 e 0 ((fc_orR A na n (fc_or0 n w) u (sx_I (fc_or0 n w) 2)).2.1, y)).1, (fc_orL A na n (fc_orR A na n (fc_or0 n w) u (sx_I (fc_or0 n w) 2)).1 (fc_orR A na n (fc_or0 n w) u (sx_I (fc_or0 n w) 2)).2.2 e 0 ((fc_orR A na n (fc_or0 n w) u (sx_I (fc_or0 n w) 2)).2.1, y)).2.1, (fc_orR A na n (fc_or0 n w) u (sx_I (fc_or0 n w) 2)).2.2, (fc_orL A na n (fc_orR A na n (fc_or0 n w) u (sx_I (fc_or0 n w) 2)).1 (fc_orR A na n (fc_or0 n w) u (sx_I (fc_or0 n w) 2)).2.2 e 0 ((fc_orR A na n (fc_or0 n w) u (sx_I (fc_or0 n w) 2)).2.1, y)).2.2)
theorem c_X1_order0 {G : pj_G} {d : Nat} {c : sx_C} {m : sx_M} {o : Nat → Int64} {D : pj_H} (p : Int32) (h : fc_isProgram c.1 p = 0) : pj_Rt G mX1_order (d + 5) [.ref 2, .int p] (sx_mk c m o D) 0 0 (some (.int (-1))) (sx_mk c m o D) := by
  refine pj_Cn.start ?_
  refine pj_J.go (oX1_order G) 2 rfl trivial ?_
  refine pj_J.cal0 kX1_order_2 (c_X1_isProgram (c := c) p) ⟨_, _, _, rfl, rfl⟩ pj_le0 pj_le0 pj_le0 ?_
  refine pj_J.go (oX1_order G) 1 rfl trivial ?_
  refine pj_J.pos (h) ?_
  refine pj_J.go (oX1_order G) 1 rfl trivial ?_
  exact pj_iret dX1_order_9 rfl ⟨rfl, rfl⟩
theorem c_X1_order1 {G : pj_G} {d : Nat} {c : sx_C} {m : sx_M} {o : Nat → Int64} {D : pj_H} (p : Int32) (h : ¬ fc_isProgram c.1 p = 0) (h6 : ¬ sx_i c.1 3 ≤ 6) : pj_Rt G mX1_order (d + 5) [.ref 2, .int p] (sx_mk c m o D) 0 0 (some (.int (-2))) (sx_mk c m o D) := by
  refine pj_Cn.start ?_
  refine pj_J.go (oX1_order G) 2 rfl trivial ?_
  refine pj_J.cal0 kX1_order_2 (c_X1_isProgram (c := c) p) ⟨_, _, _, rfl, rfl⟩ pj_le0 pj_le0 pj_le0 ?_
  refine pj_J.go (oX1_order G) 1 rfl trivial ?_
  refine pj_J.neg (h) ?_
  refine pj_J.go (oX1_order G) 4 rfl trivial ?_
  refine pj_J.neg (h6) ?_
  refine pj_J.go (oX1_order G) 1 rfl trivial ?_
  exact pj_iret dX1_order_21 rfl ⟨rfl, rfl⟩
theorem c_X1_order2 {G : pj_G} {d : Nat} {c : sx_C} {m : sx_M} {o : Nat → Int64} {D : pj_H} (p : Int32) (h : ¬ fc_isProgram c.1 p = 0) (hp4 : vp_in p 4) {pi : Nat} (hpi : sx_P c p.toNatClampNeg = some (pi + 98)) (n : Nat) (hn : n ≤ 6) (en : sx_i c.1 3 = nI n) {na : Nat} {A : fp_A} {cn cd : Int64} (hP : fp_prog D pi na A cn cd) (e : Nat) (hO1 : fc_orOk A na n (fc_or0 n c.1) (sx_R c 1) (sx_I (fc_or0 n c.1) 2)) (I : sx_M × sx_M → Prop) (hI : ∀ z, I z → sx_i z.1 3 = nI n) (hT : ∀ z g, I z → fm_turn n (sx_I z.1 16) = some g → (∀ k, k < n → vp_in (g k) 12) ∧ fc_orSok A na n z.1 z.2 g ∧ I (fc_orS A na n z.1 z.2 g).2 ∧ sx_I (fc_orS A na n z.1 z.2 g).2.1 16 = g) (hI0 : I ((fc_orR A na n (fc_or0 n c.1) (sx_R c 1) (sx_I (fc_or0 n c.1) 2)).2.1, sx_R c 2)) (he : fm_ends n e (sx_I (fc_orR A na n (fc_or0 n c.1) (sx_R c 1) (sx_I (fc_or0 n c.1) 2)).2.1 16)) : pj_Rt G mX1_order (d + 5) [.ref 2, .int p] (sx_mk c m o D) 0 0 (some (.int (fc_order A na n e c.1 (sx_R c 1) (sx_R c 2)).1)) (sx_mk (sx_sR (sx_sR (sx_sM c (fc_order A na n e c.1 (sx_R c 1) (sx_R c 2)).2.1) 1 (fc_order A na n e c.1 (sx_R c 1) (sx_R c 2)).2.2.1) 2 (fc_order A na n e c.1 (sx_R c 1) (sx_R c 2)).2.2.2) m o D) := by
  refine pj_Cn.start ?_
  refine pj_J.go (oX1_order G) 2 rfl trivial ?_
  refine pj_J.cal0 kX1_order_2 (c_X1_isProgram (c := c) p) ⟨_, _, _, rfl, rfl⟩ pj_le0 pj_le0 pj_le0 ?_
  refine pj_J.go (oX1_order G) 1 rfl trivial ?_
  refine pj_J.neg (h) ?_
  refine pj_J.go (oX1_order G) 4 rfl trivial ?_
  refine pj_J.pos (by rw [en]; exact nI_le (b := 6) hn (by decide)) ?_
  refine pj_J.go (oX1_order G) 4 rfl ⟨by exact hp4, trivial⟩ ?_
  refine pj_J.seq (show va_rf (sx_P c p.toNatClampNeg) :: _ = .ref (pi + 98) :: _ by rw [hpi]; rfl) ?_
  refine pj_J.go (oX1_order G) 3 rfl trivial ?_
  refine pj_for (σ := sx_M) (fun (k : Nat) (w : sx_M) => pj_J G mX1_order (d + 5) 31 [some (.ref 2), some (.int p), some (.ref (pi + 98)), some (.int (nI k)), none, none, none] [] (sx_mk (sx_sM c w) m o D) 0 0 _) fc_orP (fun _ w => w.1 = c.1.1) n (fun k w hk hw => ⟨hw, fun kk => ly_coP (c := sx_sM c w) n hn (by show w.1 3 = _; rw [hw]; exact en) k hk (by rw [nI_add1]; exact kk)⟩) n 0 c.1 (by simp) rfl (fun hw => ?_)
  have en2 : sx_i (it_up fc_orP n 0 c.1) 3 = nI n := by
    show (it_up fc_orP n 0 c.1).1 3 = _
    rw [hw]
    exact en
  refine lz_coP (c := sx_sM c (fc_or0 n c.1)) n hn en2 ?_
  refine lx_coA (c := sx_sM c (fc_or0 n c.1)) n hn en2 hP hO1 ?_
  refine lp_coL (c := sx_sR (sx_sM c (fc_orR A na n (fc_or0 n c.1) (sx_R c 1) (sx_I (fc_or0 n c.1) 2)).2.1) 1 (fc_orR A na n (fc_or0 n c.1) (sx_R c 1) (sx_I (fc_or0 n c.1) 2)).2.2) n hn hP I hI hT e 0 ((fc_orR A na n (fc_or0 n c.1) (sx_R c 1) (sx_I (fc_or0 n c.1) 2)).2.1, sx_R c 2) hI0 he ?_
  exact ⟨rfl, rfl⟩
