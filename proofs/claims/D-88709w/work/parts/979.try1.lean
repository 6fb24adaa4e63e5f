/-! tried runs: one amount. Own work. -/
set_option maxRecDepth 100000
/-- what trying leaves of the model -/
def tf (m x : sx_M) : Prop :=
  (∀ i, i ≠ 17 → i ≠ 27 → i ≠ 28 → i ≠ 30 → i ≠ 31 → i ≠ 32 → sx_i x i = sx_i m i) ∧ (∀ i, i ≠ 18 → i ≠ 26 → i ≠ 46 → sx_I x i = sx_I m i) ∧ (∀ k, k < 8 → sx_I x 26 k = sx_I m 26 k) ∧ rl_h 0 x ∧
  (∀ i, i < 19 ∨ 25 < i → i ≠ 41 → i ≠ 42 → i ≠ 47 → sx_L x i = sx_L m i) ∧ (∀ i k, i = 19 ∨ i = 20 ∨ i = 21 ∨ i = 23 → k < 8 → sx_L x i k = sx_L m i k) ∧ (∀ k, k < 12 → sx_L x 22 k = sx_L m 22 k) ∧ (∀ k, k < 4 → sx_L x 24 k = sx_L m 24 k ∧ sx_L x 25 k = sx_L m 25 k)
theorem tf.refl {m : sx_M} (h : rl_h 0 m) : tf m m := ⟨fun _ _ _ _ _ _ _ => rfl, fun _ _ _ _ => rfl, fun _ _ => rfl, h, fun _ _ _ _ _ => rfl, fun _ _ _ _ => rfl, fun _ _ => rfl, fun _ _ => ⟨rfl, rfl⟩⟩
theorem tf.tr {m x y : sx_M} (h : tf m x) (g : tf x y) : tf m y := by
  obtain ⟨h1, h2, h3, h4, h5, h6, h7, h8⟩ := h
  obtain ⟨g1, g2, g3, g4, g5, g6, g7, g8⟩ := g
  exact ⟨fun i a b c d e f => (g1 i a b c d e f).trans (h1 i a b c d e f), fun i a b c => (g2 i a b c).trans (h2 i a b c), fun k a => (g3 k a).trans (h3 k a), g4, fun i a b c d => (g5 i a b c d).trans (h5 i a b c d), fun i k a b => (g6 i k a b).trans (h6 i k a b), fun k a => (g7 k a).trans (h7 k a), fun k a => ⟨(g8 k a).1.trans (h8 k a).1, (g8 k a).2.trans (h8 k a).2⟩⟩
theorem tf.W {w m x : sx_M} (h : tf m x) (hw : rl_w w m) : rl_w w x := by
  unfold rl_w
  rw [h.2.1 1 (by decide) (by decide) (by decide), h.2.1 2 (by decide) (by decide) (by decide), h.2.1 5 (by decide) (by decide) (by decide), h.2.1 6 (by decide) (by decide) (by decide)]
  exact hw
theorem tf.P {A : fp_A} {n p : Nat} {m x : sx_M} (h : tf m x) (hA : rp A n p m) : rp A n p x := by
  unfold rp
  rw [h.2.1 8 (by decide) (by decide) (by decide), h.2.1 9 (by decide) (by decide) (by decide), h.2.1 10 (by decide) (by decide) (by decide), h.2.1 11 (by decide) (by decide) (by decide), h.2.1 12 (by decide) (by decide) (by decide)]
  exact hA
/-- what trying leaves of the judge's own fields -/
def tw (w x : sx_M) : Prop := sx_i x = sx_i w ∧ (∀ i, i ≠ 16 → i ≠ 17 → i ≠ 18 → sx_I x i = sx_I w i) ∧ (∀ i, i ≠ 13 → i ≠ 14 → sx_L x i = sx_L w i)
theorem tw.refl (w : sx_M) : tw w w := ⟨rfl, fun _ _ _ _ => rfl, fun _ _ _ => rfl⟩
theorem tw.tr {w x y : sx_M} (h : tw w x) (g : tw x y) : tw w y := ⟨g.1.trans h.1, fun i a b c => (g.2.1 i a b c).trans (h.2.1 i a b c), fun i a b => (g.2.2 i a b).trans (h.2.2 i a b)⟩
theorem tw.W {w m x : sx_M} (h : tw w x) (hw : rl_w w m) : rl_w x m := by
  unfold rl_w
  rw [h.2.1 0 (by decide) (by decide) (by decide), h.2.1 1 (by decide) (by decide) (by decide), h.2.1 5 (by decide) (by decide) (by decide), h.2.1 4 (by decide) (by decide) (by decide)]
  exact hw
theorem tw_14 {w x : sx_M} {g : Nat → Int64} (h : x = sx_sL w 14 g) : tw w x := by
  subst h
  exact ⟨rfl, fun _ _ _ _ => rfl, fun i _ b => by rw [rg_LL, if_neg b]⟩
/-- a run's lines are in bounds -/
def ub (u : sx_M) : Prop := ∀ k, k < 12 → (sx_I u 8 k).toInt.natAbs ≤ 1000000
/-- how a tried run ends -/
def ty_end (p : Nat) (w u m : sx_M) (R : Int32 × sx_M × sx_M) (M : Int32 × sx_M) : Prop :=
  tf m M.2 ∧ tw w R.2.1 ∧ rl_w R.2.1 M.2 ∧ ub R.2.2 ∧ rl_s 1 R.2.2 M.2 ∧ (sx_L M.2 42 = sx_L m 42 ∧ sx_L M.2 47 = sx_L m 47 ∧ sx_I M.2 46 = sx_I m 46 ∧ sx_I R.2.1 16 = sx_I w 16 ∧ sx_I R.2.1 17 = sx_I w 17) ∧
  ((R.1 = 1 ∧ M.1 = 0 ∧ (∀ k, k < 8 → sx_L R.2.2 12 k = sx_L M.2 23 (8 + k)) ∧ sx_i R.2.2 13 = sx_i M.2 31 ∧ rl_p R.2.2 M.2) ∨ (R.1 = 0 ∧ M.1 = 1 ∧ ∀ k, k < 8 → sx_L M.2 23 (8 + k) = 0))
/-- a run that is tried with a bill: what must hold ahead -/
theorem ty_run {A : fp_A} {n p : Nat} {w u m : sx_M} (hp : p < 4) (hw : rl_w w m) (hh : rl_h 0 m) (hA : rp A n p m) (hub : ub u) (hb : rl_b u m) (h13 : vp_in (sx_i u 9) 13) :
    fa_runA A n 0 (w, fr_begin (fr_bare u)) ∧ rn_inv A n 1 p 0 0 (fm_rn0 (fm_tr0 m (nI p))) ∧ sx_i (fm_tr0 m (nI p)) 16 = 1 ∧ rp A n p (fm_tr0 m (nI p)) ∧
    ty_end p w u m (if (fp_run A n w (fr_bare u)).1 < 0 then 0 else 1, (fp_run A n w (fr_bare u)).2) (fm_tries m (nI p)) := by
  obtain ⟨ga, ea, za⟩ := br_u u
  obtain ⟨gm, em, zm, km⟩ := tr_m m hp
  have ip : (4 + nI p : Int32).toNatClampNeg = 4 + p := by rw [show (4 + nI p : Int32) = nI (4 + p) from nI_add 4 p, nI_clamp (by omega)]
  have Em : fm_tr0 m (nI p) = sx_sL (sx_sL (sx_sL (sx_si m 16 1) 23 gm) 24 (vp_updL (sx_L m 24) (4 + p) 0)) 25 (vp_updL (sx_L m 25) (4 + p) 1) := by
    rw [em]
    unfold fm_trC
    rw [ip]; rfl
  have hrb : rb 1 p w (fr_bare u) (fm_tr0 m (nI p)) := by
    rw [ea, Em]
    refine ⟨hw, ⟨rfl, by decide, hh.2.2⟩, hb, (show rl_n 0 1 from ⟨Nat.zero_le _, by decide, by decide, by decide⟩), h13, hub, fun k hk => ?_, ?_, ?_⟩
    · show ga k = gm (8 * 1 + k)
      rw [za k hk, zm k hk]
    · show (0 : Int64) = vp_updL (sx_L m 24) (4 + p) 0 (4 * 1 + p)
      rw [rg_uL, if_pos (by omega)]
    · show (1 : Int64) = vp_updL (sx_L m 25) (4 + p) 1 (4 * 1 + p)
      rw [rg_uL, if_pos (by omega)]
  have hrp : rp A n p (fm_tr0 m (nI p)) := by rw [Em]; exact hA
  obtain ⟨r1, r2, r3⟩ := rn_run hp hrb hrp
  have l0 : sx_i (fr_bare u) 13 = 0 := by rw [ea]; rfl
  rw [l0] at r2
  have h16 : sx_i (fm_tr0 m (nI p)) 16 = 1 := by rw [Em]; rfl
  refine ⟨r1, r2, h16, hrp, ?_⟩
  obtain ⟨g, ⟨gw, hgw⟩, hx, hcase⟩ := r3
  have T : tf m (sx_si (fm_runs (fm_tr0 m (nI p)) (nI p)).2 16 0) := by
    generalize (fm_runs (fm_tr0 m (nI p)) (nI p)).2 = M at *
    refine ⟨fun i a1 a2 a3 a4 a5 a6 => ?_, fun i a1 a2 a3 => ?_, fun k hk => ?_, ⟨rfl, by decide, hx.2.1.2.2⟩, fun i a1 a2 a3 a4 => ?_, fun i k a1 a2 => ?_, fun k hk => ?_, fun k hk => ?_⟩
    · by_cases e : i = 16
      · subst e
        show (0 : Int32) = _
        rw [hh.1]; rfl
      · rw [rg_ii, if_neg e, g.i a2 a3 a4 a5 a6, Em]
        show (if i = 16 then (1 : Int32) else sx_i m i) = _
        rw [if_neg e]
    · show sx_I M i = _
      rw [g.I a2, Em]; rfl
    · show sx_I M 26 k = _
      rw [g.S (by omega), Em]; rfl
    · show sx_L M i = _
      rw [g.L a1 a2, Em]
      simp only [rg_LL, rg_Li]
      rw [if_neg (by omega), if_neg (by omega), if_neg (by omega)]
    · show sx_L M i k = _
      rw [g.O a1 (by omega), Em]
      rcases a1 with rfl | rfl | rfl | rfl
      · rfl
      · rfl
      · rfl
      · exact km k (by omega)
    · show sx_L M 22 k = _
      rw [g.R (by omega), Em]; rfl
    · have := g.C (k := k) (by omega)
      show sx_L M 24 k = _ ∧ sx_L M 25 k = _
      rw [this.1, this.2, Em]
      constructor
      · show vp_updL (sx_L m 24) (4 + p) 0 k = _
        rw [rg_uL, if_neg (by omega)]
      · show vp_updL (sx_L m 25) (4 + p) 1 k = _
        rw [rg_uL, if_neg (by omega)]
  have X : sx_L (sx_si (fm_runs (fm_tr0 m (nI p)) (nI p)).2 16 0) 42 = sx_L m 42 ∧ sx_L (sx_si (fm_runs (fm_tr0 m (nI p)) (nI p)).2 16 0) 47 = sx_L m 47 ∧ sx_I (sx_si (fm_runs (fm_tr0 m (nI p)) (nI p)).2 16 0) 46 = sx_I m 46 := by
    refine ⟨?_, ?_, ?_⟩
    · show sx_L (fm_runs (fm_tr0 m (nI p)) (nI p)).2 42 = _
      rw [g.L (by omega) (by omega), Em]; rfl
    · show sx_L (fm_runs (fm_tr0 m (nI p)) (nI p)).2 47 = _
      rw [g.L (by omega) (by omega), Em]; rfl
    · show sx_I (fm_runs (fm_tr0 m (nI p)) (nI p)).2 46 = _
      rw [g.I (by omega), Em]; rfl
  have Y : sx_I (fa_runL A n 0 (w, fr_begin (fr_bare u))).2.1 16 = sx_I w 16 ∧ sx_I (fa_runL A n 0 (w, fr_begin (fr_bare u))).2.1 17 = sx_I w 17 := by
    rw [hgw]; exact ⟨rfl, rfl⟩
  unfold fm_tries fp_run
  unfold rl_x at hx
  obtain ⟨x1, x2, x3, ⟨n0, n1, n2, n3, n4⟩, x5, x6⟩ := hx
  rcases hcase with ⟨c1, c2, c3, c4⟩ | ⟨i, r, c0, c1, c2, c3, c4, c5, c6, c7, c8, c9⟩
  · generalize fa_runL A n 0 (w, fr_begin (fr_bare u)) = R at *
    obtain ⟨R1, R2, R3⟩ := R
    subst c1
    dsimp only at *
    rw [if_pos c2]
    refine ⟨T, tw_14 hgw, x1, n4, x3, ⟨X.1, X.2.1, X.2.2, Y.1, Y.2⟩, Or.inl ⟨?_, rfl, c3.2.2.2.2.2.2.1, ?_, x5⟩⟩
    · rw [if_neg (nI_pos (by have := hA.1; omega))]
    · have := c3.2.2.2.2.2.2.2.2.2
      rw [l0, Int32.zero_add] at this
      exact this
  · generalize fa_runL A n 0 (w, fr_begin (fr_bare u)) = R at *
    obtain ⟨R1, R2, R3⟩ := R
    subst c1
    dsimp only at *
    have : ¬ (fm_runs (fm_tr0 m (nI p)) (nI p)).1 = -2 := by
      rw [c4]
      intro e
      have := congrArg Int32.toInt e
      rw [nI_toInt (by have := hA.1; omega)] at this
      have : (-2 : Int32).toInt = -2 := rfl
      omega
    rw [if_neg this, if_pos c3]
    refine ⟨T, tw_14 hgw, x1, n4, x3, ⟨X.1, X.2.1, X.2.2, Y.1, Y.2⟩, Or.inr ⟨rfl, rfl, fun k hk => ?_⟩⟩
    show sx_L (fm_runs (fm_tr0 m (nI p)) (nI p)).2 23 (8 + k) = 0
    have e8 := c7 k hk
    rw [show 8 * 1 + k = 8 + k by omega] at e8
    rw [e8, Em]
    exact zm k hk
/-- one amount is tried -/
theorem ty_amount {A : fp_A} {n p : Nat} {w u m : sx_M} (hp : p < 4) (hw : rl_w w m) (hh : rl_h 0 m) (hA : rp A n p m) (hub : ub u) {x : Int32} (hx : x.toInt.natAbs ≤ 1000000) :
    fc_runsOk A n w u x ∧ rn_inv A n 1 p 0 0 (fm_rn0 (fm_tr0 (fm_taS x m) (nI p))) ∧ sx_i (fm_tr0 (fm_taS x m) (nI p)) 16 = 1 ∧ rp A n p (fm_tr0 (fm_taS x m) (nI p)) ∧ ty_end p w u m (fc_runs A n w u x) (fm_tA m (nI p) x) := by
  obtain ⟨g, eg, g1, g2⟩ := bl_u u (sx_I (fc_rsW w x) 18) (n := 1) (by decide)
  have E0 : sx_I (fc_rsW w x) 18 0 = x := by
    unfold fc_rsW
    rw [rg_II, if_pos rfl, rg_u, if_pos (show 0 = Int32.toNatClampNeg 0 from rfl)]
  have t0 : tf m (fm_taS x m) := by
    refine ⟨fun i a _ _ _ _ _ => ?_, fun i a _ _ => ?_, fun _ _ => rfl, hh, fun _ _ _ _ _ => rfl, fun _ _ _ _ => rfl, fun _ _ => rfl, fun _ _ => ⟨rfl, rfl⟩⟩
    · show (if i = 17 then (1 : Int32) else sx_i m i) = _
      rw [if_neg a]
    · show (if i = 18 then _ else sx_I m i) = _
      rw [if_neg a]
  have w0 : tw w (fc_rsW w x) := ⟨rfl, fun i _ _ a => by show (if i = 18 then _ else sx_I w i) = _; rw [if_neg a], fun _ _ _ => rfl⟩
  have := ty_run (A := A) (n := n) (p := p) (w := fc_rsW w x) (u := fr_bill u (sx_I (fc_rsW w x) 18) 1) (m := fm_taS x m) hp (t0.W (w0.W hw)) hh (t0.P hA) (by
    rw [eg]
    intro k hk
    show (g k).toInt.natAbs ≤ _
    by_cases e : k = 0
    · rw [e, g1 0 (by decide), E0]; exact hx
    · rw [g2 k (by omega)]; exact hub k hk) (by
    rw [eg]
    refine ⟨rfl, fun k hk => ?_⟩
    have hk : k < (nI 1).toNatClampNeg := hk
    rw [rl_c (by decide)] at hk
    have : k = 0 := by omega
    subst this
    show g 0 = upd (sx_I m 18) 0 x 0
    rw [g1 0 (by decide), E0, rg_u, if_pos rfl]) (by rw [eg]; exact vp_in_nI (n := 1) (by decide) (by decide))
  obtain ⟨r1, r2, r3, r4, q1, q2, q3, q4, q5, q6, q7⟩ := this
  exact ⟨r1, r2, r3, r4, t0.tr q1, w0.tr q2, q3, q4, q5, ⟨q6.1, q6.2.1, q6.2.2.1, q6.2.2.2.1, q6.2.2.2.2⟩, q7⟩
