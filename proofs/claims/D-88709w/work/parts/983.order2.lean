/-! orders of the bill: the whole. Own work. -/
set_option maxRecDepth 100000
theorem or_m1 (m : sx_M) {n : Nat} (hn : n ≤ 6) : ∃ f g, fm_or1 n m = sx_sL (sx_sL m 42 f) 47 g ∧ (∀ k, k < 8 → f k = sx_L m 23 (8 + k)) ∧ ∀ k, k < n → g k = sx_L m 22 (12 + k) := by
  unfold fm_or1
  obtain ⟨f, e, hf⟩ := nt_m m
  rw [e]
  have : ∃ g, it_up fm_orF n 0 (sx_sL m 42 f) = sx_sL (sx_sL m 42 f) 47 g ∧ ∀ k, k < n → g k = sx_L m 22 (12 + k) := by
    refine it_inv (P := fun j (z : sx_M) => ∃ g, z = sx_sL (sx_sL m 42 f) 47 g ∧ ∀ k, k < j → g k = sx_L m 22 (12 + k)) (n := n) ?_ n 0 _ (by omega) ⟨sx_L m 47, rl_sL1 (sx_sL m 42 f) 47, fun k hk => absurd hk (by omega)⟩
    intro j z hj ⟨g, e, h⟩
    subst e
    have i12 : (12 + nI j : Int32).toNatClampNeg = 12 + j := by rw [show (12 + nI j : Int32) = nI (12 + j) from nI_add 12 j, nI_clamp (by omega)]
    unfold fm_orF
    rw [rl_c (show j < 100000 by omega), i12, rl_ss]
    refine ⟨_, rfl, fun k hk => ?_⟩
    rw [rg_uL]
    by_cases e : k = j
    · rw [if_pos e, e]; rfl
    · rw [if_neg e]; exact h k (by omega)
  obtain ⟨g, e2, hg⟩ := this
  exact ⟨f, g, e2, hf, hg⟩
theorem tf_1 {m : sx_M} (h : rl_h 0 m) (f g : Nat → Int64) : tf m (sx_sL (sx_sL m 42 f) 47 g) := ⟨fun _ _ _ _ _ _ _ => rfl, fun _ _ _ _ => rfl, fun _ _ => rfl, h, fun i a _ b c => by rw [rg_LL, if_neg c, rg_LL, if_neg b], fun i k a _ => by rw [rg_LL, if_neg (by omega), rg_LL, if_neg (by omega)], fun _ _ => rfl, fun _ _ => ⟨rfl, rfl⟩⟩
/-- the first order is tried, what it gave is noted -/
theorem or_start {A : fp_A} {na n p : Nat} {w u y m : sx_M} (hn : n ≤ 6) (hp : p < 4) (hw : rl_w w m) (hh : rl_h 0 m) (hA : rp A na p m) (hu : ub u) (hy : ub y) (hl : ln n w m) :
    fc_orOk A na n (fc_or0 n w) u (sx_I (fc_or0 n w) 2) ∧ rn_inv A na 1 p 0 0 (fm_rn0 (fm_tr0 (fm_to0 (fm_or0 n m) n) (nI p))) ∧ sx_i (fm_tr0 (fm_to0 (fm_or0 n m) n) (nI p)) 16 = 1 ∧ rp A na p (fm_tr0 (fm_to0 (fm_or0 n m) n) (nI p)) ∧
    (∀ k, k < n → vp_in (sx_I (fm_or0 n m) 46 k) 12) ∧ sx_i (fm_tries (fm_to0 (fm_or0 n m) n) (nI p)).2 3 = nI n ∧
    OR A na n p (fc_orR A na n (fc_or0 n w) u (sx_I (fc_or0 n w) 2)).1 (fm_tries (fm_to0 (fm_or0 n m) n) (nI p)).1 (fc_orR A na n (fc_or0 n w) u (sx_I (fc_or0 n w) 2)).2.2 (fc_orR A na n (fc_or0 n w) u (sx_I (fc_or0 n w) 2)).2.1 y (fm_or1 n (fm_tries (fm_to0 (fm_or0 n m) n) (nI p)).2) (fun k => k) ∧
    tw w (fc_orR A na n (fc_or0 n w) u (sx_I (fc_or0 n w) 2)).2.1 ∧ ub (fc_orR A na n (fc_or0 n w) u (sx_I (fc_or0 n w) 2)).2.2 ∧ tf m (fm_or1 n (fm_tries (fm_to0 (fm_or0 n m) n) (nI p)).2) ∧ fm_ends n 721 (sx_I (fc_orR A na n (fc_or0 n w) u (sx_I (fc_or0 n w) 2)).2.1 16) ∧ fm_ends n 721 (sx_I (fm_or1 n (fm_tries (fm_to0 (fm_or0 n m) n) (nI p)).2) 46) := by
  obtain ⟨fw, ew, hfw⟩ := or_w0 w hn
  obtain ⟨fm, em, hfm⟩ := or_m0 m hn
  have tw1 := tw_16 w fw
  have tf1 := tf_46 hh fm
  have l1 : ln n (sx_sI w 16 fw) (sx_sI m 46 fm) := ln_t hl tw1 tf1
  obtain ⟨q1, q2, q3, q4, t1, t2, t3, t4, t5, t6, t7⟩ := or_try (A := A) (na := na) (n := n) (p := p) (w := sx_sI w 16 fw) (y := u) (m := sx_sI m 46 fm) hn hp (tf1.W (tw1.W hw)) hh (tf1.P hA) hu (F := fun k => k) (Ra.id hfm) l1 (sx_I (sx_sI w 16 fw) 2) (fun _ _ => rfl)
  rw [ew, em]
  refine ⟨q1, q2, q3, q4, fun k hk => ?_, ?_, ?_⟩
  · show vp_in (fm k) 12
    rw [hfm k hk]; exact vp_in_nI (by omega) (by decide)
  · rw [t1.1 3 (by decide) (by decide) (by decide) (by decide) (by decide) (by decide)]; exact hl.2.1
  generalize hR : fc_orR A na n (sx_sI w 16 fw) u (sx_I (sx_sI w 16 fw) 2) = R at *
  generalize hM : fm_tries (fm_to0 (sx_sI m 46 fm) n) (nI p) = M at *
  obtain ⟨f, g, e1, hf, hg⟩ := or_m1 M.2 hn
  have tf2 := tf_1 t1.2.2.2.1 f g
  have s16 : sx_I R.2.1 16 = fw := by rw [t6.2.2.2.1]; rfl
  have s46 : sx_I (fm_or1 n M.2) 46 = fm := by rw [e1]; show sx_I M.2 46 = fm; rw [t6.2.2.1]; rfl
  refine ⟨⟨?_, ?_, ?_, hy, ?_, ?_, ?_, ?_, ?_⟩, tw1.tr t2, t4, ?_, ?_, ?_⟩
  · rw [e1]; exact tf2.W t3
  · rw [e1]; exact tf2.2.2.2.1
  · rw [e1]; exact tf2.P (t1.P (tf1.P hA))
  · rw [s16]; exact Ra.id hfw
  · rw [s46]; exact Ra.id hfm
  · rw [e1]; exact ln_t (ln_t l1 t2 t1) (tw.refl _) tf2
  · rw [e1]
    rcases t7 with ⟨c1, c2, c3, _, _⟩ | ⟨c1, c2, c3⟩
    · exact Or.inl ⟨c1, c2, fun k hk => by show _ = f k; rw [hf k hk]; exact c3 k hk⟩
    · exact Or.inr ⟨c1, c2, fun k hk => by show f k = 0; rw [hf k hk]; exact c3 k hk⟩
  · intro k hk
    rw [e1]
    show _ = g k
    rw [hg k hk]
    have := t5.2.2.2.2 k (by omega)
    rw [show 12 * 1 + k = 12 + k by omega] at this
    exact this
  · rw [e1]; exact (tf1.tr t1).tr tf2
  · rw [s16]; exact ends_id hn hfw
  · rw [s46]; exact ends_id hn hfm
/-- orders: both answer the same -/
theorem or_all {A : fp_A} {na n p : Nat} {w u y m : sx_M} (hn : n ≤ 6) (hp : p < 4) (hw : rl_w w m) (hh : rl_h 0 m) (hA : rp A na p m) (hu : ub u) (hy : ub y) (hl : ln n w m) (hP : ¬ fm_isProgram m (nI p) = 0) (e : Nat) :
    (fc_order A na n e w u y).1 = (fm_order (fun m => fm_tries (fm_to0 m n) (nI p)) m (nI p) e).1 ∧ tw w (fc_order A na n e w u y).2.1 ∧ ub (fc_order A na n e w u y).2.2.1 ∧ ub (fc_order A na n e w u y).2.2.2 ∧ tf m (fm_order (fun m => fm_tries (fm_to0 m n) (nI p)) m (nI p) e).2 := by
  obtain ⟨_, _, _, _, _, _, s1, s2, s3, s4, _, _⟩ := or_start (A := A) (na := na) (n := n) (p := p) (w := w) (u := u) (y := y) (m := m) hn hp hw hh hA hu hy hl
  obtain ⟨l1, l2, l3, l4⟩ := or_loop hn hp e 0 _ _ _ _ s1
  unfold fc_order fm_order
  rw [if_neg hP, hl.2.1, if_pos (show nI n ≤ 6 from nI_le (b := 6) hn (by decide)), rl_c (show n < 100000 by omega)]
  exact ⟨l1, s2.tr l2, s3, l3, s4.tr l4⟩
