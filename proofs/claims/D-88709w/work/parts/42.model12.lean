/-! PennyJudgeModel: runs (by tools/gen_m12.py) -/
set_option maxRecDepth 100000
def fm_rnA (k : Nat) (m : sx_M) : sx_M := sx_sL m 41 (vp_updL (sx_L m 41) (nI k).toNatClampNeg (sx_L m 23 (8 * sx_i m 16 + nI k).toNatClampNeg))
def fm_rnR (k : Nat) (m : sx_M) : sx_M := sx_sL m 22 (vp_updL (sx_L m 22) (12 * sx_i m 16 + nI k).toNatClampNeg 0)
def fm_rnB (k : Nat) (m : sx_M) : sx_M := sx_sL m 23 (vp_updL (sx_L m 23) (8 * sx_i m 16 + nI k).toNatClampNeg (sx_L m 41 (nI k).toNatClampNeg))
/-- what must be is as ahead again -/
def fm_rnZ (cx : Int32) (cu cl : Int64) (m : sx_M) : sx_M := sx_si (sx_sL (sx_sL (it_up fm_rnB 8 0 m) 24 (vp_updL (sx_L (it_up fm_rnB 8 0 m) 24) cx.toNatClampNeg cu)) 25 (vp_updL (sx_L (it_up fm_rnB 8 0 m) 25) cx.toNatClampNeg cl)) 31 0
def fm_act1 (m : sx_M) (p : Int32) (k : Nat) : sx_M := fm_doesK m p (sx_I m 9 (20 * p + nI k).toNatClampNeg) (sx_I m 10 (20 * p + nI k).toNatClampNeg) (sx_I m 11 (20 * p + nI k).toNatClampNeg) (sx_I m 12 (20 * p + nI k).toNatClampNeg)
def fm_rnL (p cx : Int32) (cu cl : Int64) : Nat → Nat → sx_M → Int32 × sx_M
  | 0, _, m => (-2, m)
  | n + 1, k, m => if sx_i (fm_act1 m p k) 32 = 0 then fm_rnL p cx cu cl n (k + 1) (fm_act1 m p k) else (nI k, fm_rnZ cx cu cl (fm_act1 m p k))
def fm_rnS (m : sx_M) : sx_M := sx_si (sx_si m 31 0) 32 0
def fm_rn0 (m : sx_M) : sx_M := fm_rnS (it_up fm_rnR 12 0 (fm_clears (it_up fm_rnA 8 0 m)))
def fm_runs (m : sx_M) (p : Int32) : Int32 × sx_M := fm_rnL p (4 * sx_i m 16 + p) (sx_L m 24 (4 * sx_i m 16 + p).toNatClampNeg) (sx_L m 25 (4 * sx_i m 16 + p).toNatClampNeg) (sx_I m 8 p.toNatClampNeg).toNatClampNeg 0 (fm_rn0 m)
/-- what the acts of a run ask: an invariant that holds ahead of each act -/
def fm_runOk (p b : Int32) (n : Nat) (inv : Nat → sx_M → Prop) : Prop := ∀ k m, inv k m → sx_I m 8 p.toNatClampNeg = nI n ∧ sx_i m 16 = b ∧ (k < n →
  vp_in (sx_I m 9 (20 * p + nI k).toNatClampNeg) 13 ∧ fm_doesOk m p (sx_I m 9 (20 * p + nI k).toNatClampNeg) (sx_I m 10 (20 * p + nI k).toNatClampNeg) (sx_I m 11 (20 * p + nI k).toNatClampNeg) (sx_I m 12 (20 * p + nI k).toNatClampNeg) ∧ sx_i (fm_act1 m p k) 16 = b ∧ (sx_i (fm_act1 m p k) 32 = 0 → inv (k + 1) (fm_act1 m p k)))
theorem vp_in_b4 {b x : Int32} (hb : b = 0 ∨ b = 1) (hx : vp_in x 4) : vp_in (4 * b + x) 8 := by
  obtain ⟨j, hj, rfl⟩ := vp_in_of hx (by decide)
  rcases hb with rfl | rfl
  · rw [show (4 * 0 + nI j : Int32) = nI j by rw [show (4 * 0 : Int32) = nI 0 from rfl, nI_add, Nat.zero_add]]
    exact vp_in_nI (by omega) (by decide)
  · rw [show (4 * 1 + nI j : Int32) = nI (4 + j) by rw [show (4 * 1 : Int32) = nI 4 from rfl, nI_add]]
    exact vp_in_nI (by omega) (by decide)
def fm_rnZ1 (cx : Int32) (cu cl : Int64) (m : sx_M) : sx_M := sx_si (sx_sL (sx_sL m 24 (vp_updL (sx_L m 24) cx.toNatClampNeg cu)) 25 (vp_updL (sx_L m 25) cx.toNatClampNeg cl)) 31 0
theorem fm_rnZ_eq (cx : Int32) (cu cl : Int64) (m : sx_M) : fm_rnZ cx cu cl m = fm_rnZ1 cx cu cl (it_up fm_rnB 8 0 m) := by unfold fm_rnZ fm_rnZ1; exact Eq.refl _
theorem lz_X4_runs {G : pj_G} {d : Nat} {c : sx_C} {o : Nat → Int64} {D : pj_H} {Q : pj_O → pj_H → Prop} (p cx : Int32) (cu cl : Int64) (k : Nat) (m2 : sx_M) (hcx : vp_in cx 8) (q : Q (.inl (some (.int (nI k)))) (sx_mk c (fm_rnZ1 cx cu cl m2) o D)) : pj_J G mX4_runs (d + 6) 144 [some (.ref 59), some (.int p), some (.int cx), some (.long cu), none, some (.long cl), none, some (.int (nI k)), some (.int (nI 8))] [] (sx_mk c m2 o D) 0 0 Q := by
  refine pj_J.go (oX4_runs G) 3 rfl trivial ?_
  refine pj_J.pos (nI_ge_lit (Nat.le_refl 8) (by decide)) ?_
  refine pj_J.go (oX4_runs G) 14 rfl ⟨by exact hcx, by exact hcx, trivial⟩ ?_
  exact pj_iret dX4_runs_201 rfl q
theorem ly_X4_runs {G : pj_G} {d : Nat} {c : sx_C} {o : Nat → Int64} {D : pj_H} {Q : pj_O → pj_H → Prop} (p cx b : Int32) (cu cl : Int64) (k j : Nat) (s : sx_M) (hb : b = 0 ∨ b = 1) (hj : j < 8) (hi : sx_i s 16 = b) (kk : pj_J G mX4_runs (d + 6) 144 [some (.ref 59), some (.int p), some (.int cx), some (.long cu), none, some (.long cl), none, some (.int (nI k)), some (.int (nI j + 1))] [] (sx_mk c (fm_rnB j s) o D) 0 0 Q) : pj_J G mX4_runs (d + 6) 144 [some (.ref 59), some (.int p), some (.int cx), some (.long cu), none, some (.long cl), none, some (.int (nI k)), some (.int (nI j))] [] (sx_mk c s o D) 0 0 Q := by
  refine pj_J.go (oX4_runs G) 3 rfl trivial ?_
  refine pj_J.neg (nI_lt_lit hj (by decide)) ?_
  refine pj_J.go (oX4_runs G) 15 rfl ⟨by exact vp_in_lit hj, by exact vp_in_b8 (by rw [hi]; exact hb) (vp_in_lit hj), trivial⟩ ?_
  exact kk
theorem lr_X4_runs {G : pj_G} {d : Nat} {c : sx_C} {o : Nat → Int64} {D : pj_H} {Q : pj_O → pj_H → Prop} (p cx b : Int32) (cu cl : Int64) (k : Nat) (m1 : sx_M) (hb : b = 0 ∨ b = 1) (hcx : vp_in cx 8) (h6 : sx_i m1 16 = b) (q : Q (.inl (some (.int (nI k)))) (sx_mk c (fm_rnZ cx cu cl m1) o D)) : pj_J G mX4_runs (d + 6) 144 [some (.ref 59), some (.int p), some (.int cx), some (.long cu), none, some (.long cl), none, some (.int (nI k)), some (.int (nI 0))] [] (sx_mk c m1 o D) 0 0 Q := by
  rw [fm_rnZ_eq] at q
  exact pj_for (fun j s => pj_J G mX4_runs (d + 6) 144 [some (.ref 59), some (.int p), some (.int cx), some (.long cu), none, some (.long cl), none, some (.int (nI k)), some (.int (nI j))] [] (sx_mk c s o D) 0 0 Q) fm_rnB (fun _ s => sx_i s 16 = b) 8 (fun j s hj hi => ⟨hi, fun kk => ly_X4_runs p cx b cu cl k j s hb hj hi (by rw [nI_add1]; exact kk)⟩) 8 0 m1 (by simp) h6 (fun hi => lz_X4_runs p cx cu cl k _ hcx q)
theorem lb_X4_runs {G : pj_G} {d : Nat} {c : sx_C} {o : Nat → Int64} {D : pj_H} {Q : pj_O → pj_H → Prop} (p cx : Int32) (cu cl : Int64) (k N : Nat) (m m1 : sx_M) (hp : vp_in p 4) (hN : N ≤ 20) (hk : k < N) (h1 : sx_I m 8 p.toNatClampNeg = nI N) (cd : pj_Rt G mX4_does (d + 5) [.ref 59, .int p, .int (20 * p + nI k)] (sx_mk c m o D) 0 0 none (sx_mk c m1 o D)) (yes : sx_i m1 32 = 0 → pj_J G mX4_runs (d + 6) 111 [some (.ref 59), some (.int p), some (.int cx), some (.long cu), none, some (.long cl), none, some (.int (nI k + 1)), none] [] (sx_mk c m1 o D) 0 0 Q) (no : ¬ sx_i m1 32 = 0 → pj_J G mX4_runs (d + 6) 144 [some (.ref 59), some (.int p), some (.int cx), some (.long cu), none, some (.long cl), none, some (.int (nI k)), some (.int (nI 0))] [] (sx_mk c m1 o D) 0 0 Q) : pj_J G mX4_runs (d + 6) 111 [some (.ref 59), some (.int p), some (.int cx), some (.long cu), none, some (.long cl), none, some (.int (nI k)), none] [] (sx_mk c m o D) 0 0 Q := by
  refine pj_J.go (oX4_runs G) 6 rfl ⟨by exact hp, trivial⟩ ?_
  refine pj_J.neg (by rw [h1]; exact nI_lt_lit hk (by omega)) ?_
  refine pj_J.go (oX4_runs G) 7 rfl trivial ?_
  refine pj_J.cal0 kX4_runs_131 cd ⟨_, _, _, rfl, rfl⟩ pj_le0 pj_le0 pj_le0 ?_
  refine pj_J.go (oX4_runs G) 3 rfl trivial ?_
  refine pj_J.ite (fun hc138 => ?_) (fun hc138 => ?_)
  · skip
    refine pj_J.go (oX4_runs G) 2 rfl trivial ?_
    exact yes hc138
  · skip
    refine pj_J.go (oX4_runs G) 2 rfl trivial ?_
    exact no hc138
theorem c_X4_act1 {G : pj_G} {d : Nat} {c : sx_C} {m : sx_M} {o : Nat → Int64} {D : pj_H} (p : Int32) (k : Nat) (hat : vp_in (20 * p + nI k) 80) (h4 : vp_in (sx_I m 9 (20 * p + nI k).toNatClampNeg) 13) (h5 : fm_doesOk m p (sx_I m 9 (20 * p + nI k).toNatClampNeg) (sx_I m 10 (20 * p + nI k).toNatClampNeg) (sx_I m 11 (20 * p + nI k).toNatClampNeg) (sx_I m 12 (20 * p + nI k).toNatClampNeg)) : pj_Rt G mX4_does (d + 5) [.ref 59, .int p, .int (20 * p + nI k)] (sx_mk c m o D) 0 0 none (sx_mk c (fm_act1 m p k) o D) := by
  unfold fm_act1
  exact c_X4_does p (20 * p + nI k) _ _ _ _ hat rfl rfl rfl rfl h4 h5
theorem fm_rnL_S (p cx : Int32) (cu cl : Int64) (n k : Nat) (m m1 : sx_M) (e : fm_act1 m p k = m1) : fm_rnL p cx cu cl (n + 1) k m = if sx_i m1 32 = 0 then fm_rnL p cx cu cl n (k + 1) m1 else (nI k, fm_rnZ cx cu cl m1) := by
  rw [fm_rnL, e]
theorem lp_X4_runs {G : pj_G} {d : Nat} {c : sx_C} {o : Nat → Int64} {D : pj_H} {Q : pj_O → pj_H → Prop} (p cx b : Int32) (cu cl : Int64) (N : Nat) (inv : Nat → sx_M → Prop) (hb : b = 0 ∨ b = 1) (hp : vp_in p 4) (hcx : vp_in cx 8) (hN : N ≤ 20) (hinv : fm_runOk p b N inv) : ∀ (n k : Nat) (m : sx_M), k + n = N → inv k m → Q (.inl (some (.int (fm_rnL p cx cu cl n k m).1))) (sx_mk c (fm_rnL p cx cu cl n k m).2 o D) → pj_J G mX4_runs (d + 6) 111 [some (.ref 59), some (.int p), some (.int cx), some (.long cu), none, some (.long cl), none, some (.int (nI k)), none] [] (sx_mk c m o D) 0 0 Q := by
  intro n
  induction n with
  | zero =>
    intro k m hk hi q
    obtain ⟨h1, h2, -⟩ := hinv k m hi
    have : k = N := by omega
    subst this
    refine pj_J.go (oX4_runs G) 6 rfl ⟨by exact hp, trivial⟩ ?_
    refine pj_J.pos (by rw [h1]; exact nI_ge_lit (Nat.le_refl _) (by omega)) ?_
    refine pj_J.go (oX4_runs G) 1 rfl trivial ?_
    exact pj_iret dX4_runs_210 rfl q
  | succ n ih =>
    intro k m hk hi q
    obtain ⟨h1, h2, h3⟩ := hinv k m hi
    obtain ⟨h4, h5, h6, h7⟩ := h3 (by omega)
    have hat : vp_in (20 * p + nI k) 80 := vp_row (p := 4) (q := 20) hp (vp_in_lit (by omega)) (by decide)
    have cd := c_X4_act1 (G := G) (d := d) (c := c) (m := m) (o := o) (D := D) p k hat h4 h5
    obtain ⟨m1, e1⟩ : ∃ m1, fm_act1 m p k = m1 := ⟨_, rfl⟩
    rw [fm_rnL_S p cx cu cl n k m m1 e1] at q
    rw [e1] at h6 h7 cd
    refine lb_X4_runs p cx cu cl k N m m1 hp hN (by omega) h1 cd (fun hc => ?_) (fun hc => ?_)
    · rw [if_pos hc] at q
      rw [nI_add1]
      exact ih (k + 1) m1 (by omega) (h7 hc) q
    · rw [if_neg hc] at q
      exact lr_X4_runs p cx b cu cl k m1 hb hcx h6 q
theorem c_X4_runs {G : pj_G} {d : Nat} {c : sx_C} {m : sx_M} {o : Nat → Int64} {D : pj_H} (p : Int32) (N : Nat) (inv : Nat → sx_M → Prop) (hb : sx_i m 16 = 0 ∨ sx_i m 16 = 1) (hp : vp_in p 4) (hN : N ≤ 20) (eN : sx_I m 8 p.toNatClampNeg = nI N) (hinv : fm_runOk p (sx_i m 16) N inv) (h0 : inv 0 (fm_rn0 m)) : pj_Rt G mX4_runs (d + 6) [.ref 59, .int p] (sx_mk c m o D) 0 0 (some (.int (fm_runs m p).1)) (sx_mk c (fm_runs m p).2 o D) := by
  refine pj_Cn.start ?_
  have eC : (sx_I m 8 p.toNatClampNeg).toNatClampNeg = N := by rw [eN, nI_clamp (by omega)]
  unfold fm_runs
  rw [eC]
  unfold fm_rn0 at h0 ⊢
  have hcx : vp_in (4 * sx_i m 16 + p) 8 := vp_in_b4 hb hp
  refine pj_J.go (oX4_runs G) 19 rfl ⟨by exact hcx, by exact hcx, trivial⟩ ?_
  refine pj_for (fun j s => pj_J G mX4_runs (d + 6) 27 [some (.ref 59), some (.int p), some (.int (4 * sx_i m 16 + p)), some (.long (sx_L m 24 (4 * sx_i m 16 + p).toNatClampNeg)), none, some (.long (sx_L m 25 (4 * sx_i m 16 + p).toNatClampNeg)), none, some (.int (nI j)), none] [] (sx_mk c s o D) 0 0 _) fm_rnA (fun _ s => sx_i s 16 = sx_i m 16) 8 (fun j s hj hi => ⟨hi, fun kk => ?_⟩) 8 0 m (by simp) rfl (fun hi => ?_)
  · rw [← nI_add1] at kk
    refine pj_J.go (oX4_runs G) 3 rfl trivial ?_
    refine pj_J.neg (nI_lt_lit hj (by decide)) ?_
    refine pj_J.go (oX4_runs G) 15 rfl ⟨by exact vp_in_b8 (by rw [hi]; exact hb) (vp_in_lit hj), by exact vp_in_lit hj, trivial⟩ ?_
    exact kk
  · generalize it_up fm_rnA 8 0 m = m1 at *
    have e2 : sx_i (fm_clears m1) 16 = sx_i m 16 := by
      rw [← hi]
      show (it_up fm_clrB 8 0 m1).1 16 = _
      rw [fm_clrB_i]
    have cc := c_X4_clears (G := G) (d := d + 5) (c := c) (m := m1) (o := o) (D := D) (by rw [hi]; exact hb)
    generalize fm_clears m1 = m2 at *
    refine pj_J.go (oX4_runs G) 3 rfl trivial ?_
    refine pj_J.pos (nI_ge_lit (Nat.le_refl 8) (by decide)) ?_
    refine pj_J.go (oX4_runs G) 1 rfl trivial ?_
    refine pj_J.cal0 kX4_runs_63 cc ⟨_, _, _, rfl, rfl⟩ pj_le0 pj_le0 pj_le0 ?_
    refine pj_J.go (oX4_runs G) 2 rfl trivial ?_
    refine pj_for (fun j s => pj_J G mX4_runs (d + 6) 69 [some (.ref 59), some (.int p), some (.int (4 * sx_i m 16 + p)), some (.long (sx_L m 24 (4 * sx_i m 16 + p).toNatClampNeg)), none, some (.long (sx_L m 25 (4 * sx_i m 16 + p).toNatClampNeg)), none, some (.int (nI j)), none] [] (sx_mk c s o D) 0 0 _) fm_rnR (fun _ s => sx_i s 16 = sx_i m 16) 12 (fun j s hj hi => ⟨hi, fun kk => ?_⟩) 12 0 m2 (by simp) e2 (fun hi => ?_)
    · rw [← nI_add1] at kk
      refine pj_J.go (oX4_runs G) 3 rfl trivial ?_
      refine pj_J.neg (nI_lt_lit hj (by decide)) ?_
      refine pj_J.go (oX4_runs G) 12 rfl ⟨by exact vp_in_b12 (by rw [hi]; exact hb) (vp_in_lit hj), trivial⟩ ?_
      exact kk
    · generalize it_up fm_rnR 12 0 m2 = m3 at *
      refine pj_J.go (oX4_runs G) 3 rfl trivial ?_
      refine pj_J.pos (nI_ge_lit (Nat.le_refl 12) (by decide)) ?_
      refine pj_J.go (oX4_runs G) 8 rfl trivial ?_
      exact lp_X4_runs p _ (sx_i m 16) _ _ N inv hb hp hcx hN hinv N 0 (fm_rnS m3) (by omega) h0 ⟨rfl, rfl⟩
