/-! acts: Carry, Sum, Tax, Flow. Own work. -/
set_option maxRecDepth 100000
theorem it_rel {σ τ : Type} {R : Nat → σ → τ → Prop} {f : Nat → σ → σ} {g : Nat → τ → τ} {n : Nat} (h : ∀ k s t, k < n → R k s t → R (k + 1) (f k s) (g k t)) : ∀ c k s t, k + c = n → R k s t → R n (it_up f c k s) (it_up g c k t) := by
  intro c
  induction c with
  | zero => intro k s t hk hr; have : k = n := by omega
            subst this; exact hr
  | succ c ih => intro k s t hk hr; exact ih (k + 1) _ _ (by omega) (h k s t (by omega) hr)
theorem it_inv {σ : Type} {P : Nat → σ → Prop} {f : Nat → σ → σ} {n : Nat} (h : ∀ k s, k < n → P k s → P (k + 1) (f k s)) : ∀ c k s, k + c = n → P k s → P n (it_up f c k s) := by
  intro c
  induction c with
  | zero => intro k s hk hr; have : k = n := by omega
            subst this; exact hr
  | succ c ih => intro k s hk hr; exact ih (k + 1) _ (by omega) (h k s (by omega) hr)
theorem pn_rest1 {a c : Int64} (h : rl_n a c) : rl_n (a - fm_floor a c * c) c ∧ bq (fm_floor a c) (2 ^ 40) ∧ fc_floor a c = fm_floor a c ∧ (a - fm_floor a c * c) / fm_g (a - fm_floor a c * c) c = a - fm_floor a c * c ∧ c / fm_g (a - fm_floor a c * c) c = c := by
  obtain ⟨h1, h2, h3, h4⟩ := h
  have hc : 0 < c := by rw [pn_lt, pn_l0]; omega
  obtain ⟨e1, e2⟩ := pn_rest hc h1 (by decide) (by omega)
  have m1 := Int.emod_nonneg a.toInt (b := c.toInt) (by omega)
  have m2 := Int.emod_lt_of_pos a.toInt (b := c.toInt) (by omega)
  have g1 : Nat.gcd (fm_abs (a - fm_floor a c * c)) (fm_abs c) = 1 := by
    unfold fm_abs
    rw [e1, Int.emod_def, Int.mul_comm]
    have := Int.gcd_sub_mul_right_left c.toInt a.toInt (a.toInt / c.toInt)
    unfold Int.gcd at this
    rw [this]
    exact h4
  have g2 : fm_g (a - fm_floor a c * c) c = 1 := by
    unfold fm_g
    rw [g1]; rfl
  refine ⟨⟨?_, h2, h3, g1⟩, pn_floorB hc h1, law_floor hc, ?_, ?_⟩
  · unfold bq; rw [e1]; omega
  · rw [g2, pn_div1]
  · rw [g2, pn_div1]
theorem rl_car {b p : Nat} {l0 : Int32} {w u m : sx_M} (h : rl b p l0 w u m) {x y : Int64} (hn : rl_n x y) : rl b p l0 w (sx_sl (sx_sl u 10 x) 11 y) (sx_sL (sx_sL m 24 (vp_updL (sx_L m 24) (4 * b + p) x)) 25 (vp_updL (sx_L m 25) (4 * b + p) y)) ∧ rl_f b p m (sx_sL (sx_sL m 24 (vp_updL (sx_L m 24) (4 * b + p) x)) 25 (vp_updL (sx_L m 25) (4 * b + p) y)) := by
  obtain ⟨hw, hh, hs, ⟨n0, n1, n2, n3, n4⟩, hp, hb, ⟨a0, a1, a2, a3⟩⟩ := h
  refine ⟨⟨hw, hh, hs, ⟨n0, n1, hn, n3, n4⟩, hp, hb, ⟨a0, ?_, ?_, a3⟩⟩, ⟨fun i _ _ _ _ _ => rfl, fun _ _ => rfl, rfl, fun _ _ => rfl, fun _ _ => rfl, ?_, ?_, fun _ _ => rfl, ?_, rfl⟩⟩
  · simp [rg_ll, rg_LL, rg_uL]
  · simp [rg_ll, rg_LL, rg_uL]
  · intro i a
    simp only [rg_LL]
    rw [if_neg (by omega), if_neg (by omega)]
  · intro i k a c
    rcases a with rfl | rfl | rfl | rfl <;> simp [rg_LL]
  · intro k hk
    simp [rg_LL, rg_uL, hk]
theorem ru_comm (u : sx_M) (x y a d : Int64) (j : Nat) : ru_set (sx_sl (sx_sl u 10 x) 11 y) j a d = sx_sl (sx_sl (ru_set u j a d) 10 x) 11 y := rfl
/-- Carry -/
theorem ra_8 {b p : Nat} {l0 : Int32} {w u m : sx_M} (h : rl b p l0 w u m) (h0 : sx_i m 32 = 0) (hp : p < 4) {j : Nat} (hj : j < 8) (t v : Int32) : rl_ok b p 8 l0 w u m (nI j) t v := by
  obtain ⟨a1, a2, a3, a4, a5, a6, a7, a8, a9, a10⟩ := rl_num h hj
  have hc := h.2.2.2.1.2.2.1
  have c1 : sx_L m 24 (4 * b + p) = sx_l u 10 := h.2.2.2.2.2.2.2.1.symm
  have c2 : sx_L m 25 (4 * b + p) = sx_l u 11 := h.2.2.2.2.2.2.2.2.1.symm
  have cb : bq (sx_l u 11) (2 ^ 20) := by have := hc.2.1; have := hc.2.2.1; unfold bq; omega
  have hd := pn_mulP a6 cb (by decide) a7 hc.2.1
  have hn := pn_add (pn_mul a5 cb (by decide)) (pn_mul hc.1 a6 (by decide)) (by decide)
  generalize hN : sx_L u 0 j * sx_l u 11 + sx_l u 10 * sx_L u 1 j = N at hn
  generalize hD : sx_L u 1 j * sx_l u 11 = D at hd
  have EN : fm_crN m (nI j) (nI p) = N := by
    unfold fm_crN
    rw [rl_ix h.2.1 hj, rl_ix4 h.2.1 hp, a1, a2, c1, c2, Int64.add_comm, hN]
  have ED : fm_crD m (nI j) (nI p) = D := by
    unfold fm_crD
    rw [rl_ix h.2.1 hj, rl_ix4 h.2.1 hp, a2, c2, Int64.mul_comm, hD]
  have EB : fm_crB m (nI j) (nI p) = fm_becomes m (nI j) N D := by unfold fm_crB; rw [EN, ED]
  have E1 : fa_doesN 8 w u (nI j) t v = ((fa_carry w u (nI j) t v).1, (fa_carry w u (nI j) t v).2, w) := rfl
  have E2 : fm_doesK m (nI p) (nI 8) (nI j) t v = fm_carries m (nI j) (nI p) := by
    unfold fm_doesK
    rw [if_neg (by decide : ¬ nI 8 = 0), if_neg (by decide : ¬ nI 8 = 1), if_neg (by decide : ¬ nI 8 = 2), if_neg (by decide : ¬ nI 8 = 3), if_neg (by decide : ¬ nI 8 = 4), if_neg (by decide : ¬ nI 8 = 5), if_neg (by decide : ¬ nI 8 = 6), if_neg (by decide : ¬ nI 8 = 7), if_pos (by decide : nI 8 = 8)]
  have hin : vp_in (4 * sx_i m 16 + nI p) 8 := by
    rw [h.2.1.1, show (4 * nI b : Int32) = nI (4 * b) from pk_mul 4 b, nI_add]
    exact rl_in8 (by have := h.2.1.2.1; omega)
  have O1 : fa_doOk 8 w u (nI j) t v = (vp_in (nI j) 8 ∧ True ∧ fa_carry_ok w u (nI j) t v) := rfl
  unfold fa_carry at E1
  unfold fa_carry_ok at O1
  unfold fm_carries at E2
  rw [rl_c (show j < 100000 by omega), hN, hD] at E1 O1
  rw [EB] at E2
  rcases rl_put h hj (n := N) hd.2.1 with ⟨a, c, n1, _, _, e1, e2⟩ | ⟨e1, e2⟩
  · obtain ⟨k1, k2, k3, k4, k5⟩ := pn_rest1 n1
    obtain ⟨r1, f1, z1⟩ := rl_set h hj n1
    obtain ⟨nW, p1, p2⟩ := rl_putW r1 hj k2
    obtain ⟨r2, f2, z2⟩ := rl_set r1 hj nW
    obtain ⟨r3, f3⟩ := rl_car r2 k1
    have L1 : sx_L (ru_set u j a c) 0 j = a := by simp [ru_set, rg_LL, rg_uL]
    have L2 : sx_L (ru_set u j a c) 1 j = c := by simp [ru_set, rg_LL, rg_uL]
    have M1 : sx_L (rm_set m (8 * b + j) a c) 19 (8 * b + j) = a := by simp [rm_set, rg_LL, rg_uL]
    have M2 : sx_L (rm_set m (8 * b + j) a c) 20 (8 * b + j) = c := by simp [rm_set, rg_LL, rg_uL]
    have EL : fm_crL m (nI j) (nI p) = c := by
      unfold fm_crL
      rw [EB, e2, rl_ix h.2.1 hj, M2]
    have EW : fm_crW m (nI j) (nI p) = fm_floor a c := by
      unfold fm_crW
      rw [EL, EB, e2, rl_ix h.2.1 hj, M1]
    have ER : fm_crR m (nI j) (nI p) = a - fm_floor a c * c := by
      unfold fm_crR
      rw [EL, EW, EB, e2, rl_ix h.2.1 hj, M1]
    have EE : fm_crE m (nI j) (nI p) = (1, rm_set (rm_set m (8 * b + j) a c) (8 * b + j) (fm_floor a c) 1) := by
      unfold fm_crE
      rw [EB, e2, EW]
      exact p2
    have EZ : fm_crZ m (nI j) (nI p) = sx_sL (sx_sL (rm_set (rm_set m (8 * b + j) a c) (8 * b + j) (fm_floor a c) 1) 24 (vp_updL (sx_L (rm_set (rm_set m (8 * b + j) a c) (8 * b + j) (fm_floor a c) 1) 24) (4 * b + p) (a - fm_floor a c * c))) 25 (vp_updL (sx_L (rm_set (rm_set m (8 * b + j) a c) (8 * b + j) (fm_floor a c) 1) 25) (4 * b + p) c) := by
      unfold fm_crZ
      rw [EE, ER, EL, k4, k5, rl_ix4 h.2.1 hp]
    rw [e2, EE, EZ] at E2
    rw [e1] at E1 O1
    dsimp only at E1 O1 E2
    rw [L1, L2, k3, if_pos rfl] at E1
    rw [L1, L2, k3] at O1
    rw [if_neg (by decide : ¬ (1 : Int32) = 0), if_neg (by decide : ¬ (1 : Int32) = 0)] at E2
    have P1 : fr_put (sx_sl (sx_sl (ru_set u j a c) 10 (a - fm_floor a c * c)) 11 c) (nI j) (fm_floor a c) 1 = (0, ru_set (sx_sl (sx_sl (ru_set u j a c) 10 (a - fm_floor a c * c)) 11 c) j (fm_floor a c) 1) := (rl_putW (rl_car r1 k1).1 hj k2).2.1
    rw [P1, ru_comm] at E1
    dsimp only at E1
    refine rl_okI E1 E2 ?_ r3 ((f1.tr f2).tr f3) ?_ ?_
    · show (0 : Int32) = sx_i (rm_set (rm_set m (8 * b + j) a c) (8 * b + j) (fm_floor a c) 1) 32
      rw [z2, z1, h0]
    · rw [O1]
      have c0 : ¬ c = 0 := fun z => by have := n1.2.1; rw [z, pn_l0] at this; omega
      exact ⟨rl_in8 hj, True.intro, pn_lo hn (by decide), hd.2.1, fun _ => c0, fun _ => pn_lo k2 (by decide), True.intro⟩
    · have S : vp_in (4 * sx_i m 16 + nI p) 8 ∧ fm_lo (fm_crN m (nI j) (nI p)) ∧ 0 < fm_crD m (nI j) (nI p) ∧ 0 < fm_crL m (nI j) (nI p) ∧ fm_lo (fm_crW m (nI j) (nI p)) ∧ fm_lo (fm_crR m (nI j) (nI p)) := by
        rw [EN, ED, EL, EW, ER]
        exact ⟨hin, pn_lo hn (by decide), hd.2.1, by rw [pn_lt, pn_l0]; have := n1.2.1; omega, pn_lo k2 (by decide), pn_lo k1.1 (by decide)⟩
      exact ⟨(rl_base h).1, rl_in8 hj, (rl_base h).2.1, (rl_base h).2.2, fun q => absurd q (by decide), fun q => absurd q (by decide), fun q => absurd q (by decide), fun q => absurd q (by decide), fun q => absurd q (by decide), fun q => absurd q (by decide), fun q => absurd q (by decide), fun q => absurd q (by decide), fun _ => S, fun q => absurd q (by decide), fun q => absurd q (by decide), fun q => absurd q (by decide)⟩
  · have n1 := h.2.2.2.1.1 j hj
    obtain ⟨k1, k2, k3, k4, k5⟩ := pn_rest1 n1
    obtain ⟨r1, f1, z1⟩ := rl_bad h (-6)
    have EL : fm_crL m (nI j) (nI p) = sx_L u 1 j := by
      unfold fm_crL
      rw [EB, e2, rl_ix h.2.1 hj]
      exact a2
    have EW : fm_crW m (nI j) (nI p) = fm_floor (sx_L u 0 j) (sx_L u 1 j) := by
      unfold fm_crW
      rw [EL, EB, e2, rl_ix h.2.1 hj]
      rw [show sx_L (0, fm_bad m (-6)).2 19 (8 * b + j) = sx_L u 0 j from a1]
    have ER : fm_crR m (nI j) (nI p) = sx_L u 0 j - fm_floor (sx_L u 0 j) (sx_L u 1 j) * sx_L u 1 j := by
      unfold fm_crR
      rw [EL, EW, EB, e2, rl_ix h.2.1 hj]
      rw [show sx_L (0, fm_bad m (-6)).2 19 (8 * b + j) = sx_L u 0 j from a1]
    rw [e2] at E2
    rw [e1] at E1 O1
    dsimp only at E1 O1 E2
    rw [if_neg (by decide : ¬ (-6 : Int32) = 0)] at E1
    rw [if_pos rfl] at E2
    refine rl_okI E1 E2 z1.symm r1 f1 ?_ ?_
    · rw [O1]
      exact ⟨rl_in8 hj, True.intro, pn_lo hn (by decide), hd.2.1, fun q => absurd q (by decide), fun q => absurd q (by decide), True.intro⟩
    · have S : vp_in (4 * sx_i m 16 + nI p) 8 ∧ fm_lo (fm_crN m (nI j) (nI p)) ∧ 0 < fm_crD m (nI j) (nI p) ∧ 0 < fm_crL m (nI j) (nI p) ∧ fm_lo (fm_crW m (nI j) (nI p)) ∧ fm_lo (fm_crR m (nI j) (nI p)) := by
        rw [EN, ED, EL, EW, ER]
        exact ⟨hin, pn_lo hn (by decide), hd.2.1, a8, pn_lo k2 (by decide), pn_lo k1.1 (by decide)⟩
      exact ⟨(rl_base h).1, rl_in8 hj, (rl_base h).2.1, (rl_base h).2.2, fun q => absurd q (by decide), fun q => absurd q (by decide), fun q => absurd q (by decide), fun q => absurd q (by decide), fun q => absurd q (by decide), fun q => absurd q (by decide), fun q => absurd q (by decide), fun q => absurd q (by decide), fun _ => S, fun q => absurd q (by decide), fun q => absurd q (by decide), fun q => absurd q (by decide)⟩
/-- a whole number that is plain -/
theorem rl_plain {b p : Nat} {l0 : Int32} {w u m : sx_M} (h : rl b p l0 w u m) (h0 : sx_i m 32 = 0) {j : Nat} (hj : j < 8) {n : Int64} (hn : bq n (2 ^ 40)) :
    (fr_put (fr_show u (nI j) 0) (nI j) n 1).1 = sx_i (fm_plain m (nI j) n) 32 ∧ rl b p l0 w (fr_put (fr_show u (nI j) 0) (nI j) n 1).2 (fm_plain m (nI j) n) ∧ rl_f b p m (fm_plain m (nI j) n) := by
  obtain ⟨n1, e1, e2⟩ := rl_putW h hj hn
  obtain ⟨r1, f1, z1⟩ := rl_set h hj n1
  obtain ⟨r2, f2, z2⟩ := rl_show r1 hj (v := 0) (Or.inl rfl)
  obtain ⟨_, e3, _⟩ := rl_putW (rl_show h hj (v := 0) (Or.inl rfl)).1 hj hn
  have EM : fm_plain m (nI j) n = fm_showA (rm_set m (8 * b + j) n 1) (8 * b + j) 0 := by
    unfold fm_plain
    rw [e2]
    dsimp only
    rw [if_neg (by decide : ¬ (1 : Int32) = 0), fm_showE r1 hj]
  rw [EM, e3]
  exact ⟨by show (0 : Int32) = _; rw [z2, z1, h0], r2, f1.tr f2⟩
theorem rl_bill {b p : Nat} {l0 : Int32} {w u m : sx_M} (h : rl b p l0 w u m) : ∃ L, L ≤ 12 ∧ (sx_i u 9).toNatClampNeg = L ∧ (sx_i m 17).toNatClampNeg = L ∧ vp_in (sx_i u 9) 13 ∧ ∀ k, k < L → sx_I m 18 k = sx_I u 8 k ∧ bq (sx_I u 8 k).toInt64 1000000 := by
  obtain ⟨n3, n4⟩ := h.2.2.2.1.2.2.2
  refine ⟨(sx_i u 9).toNatClampNeg, ?_, rfl, by rw [h.2.2.2.2.2.1.1], n3, fun k hk => ⟨(h.2.2.2.2.2.1.2 k hk).symm, pn_i (n4 k ?_)⟩⟩
  · have := vp_lt n3; omega
  · have := vp_lt n3; omega
/-- Sum -/
theorem ra_0 {b p : Nat} {l0 : Int32} {w u m : sx_M} (h : rl b p l0 w u m) (h0 : sx_i m 32 = 0) {j : Nat} (hj : j < 8) : rl_ok b p 0 l0 w u m (nI j) 0 0 := by
  obtain ⟨L, hL, l1, l2, l3, l4⟩ := rl_bill h
  have key : fa_sumT u = fm_sum m ∧ bq (fm_sum m) (L * 1000000) := by
    unfold fa_sumT fm_sum
    rw [l1, l2]
    refine it_rel (R := fun k a c => a = c ∧ bq c (k * 1000000)) (n := L) ?_ L 0 0 0 (by omega) ⟨rfl, Nat.zero_le _⟩
    intro k a c hk ⟨e, hb⟩
    subst e
    have q := l4 k hk
    unfold fa_sumB fm_sumB
    rw [rl_c (show k < 100000 by omega), q.1]
    refine ⟨rfl, bq_mono (pn_add hb q.2 (by omega)) (by omega)⟩
  have hn : bq (fm_sum m) (2 ^ 40) := bq_mono key.2 (by omega)
  obtain ⟨q1, q2, q3⟩ := rl_plain h h0 hj hn
  refine rl_okI (e := _) (x := _) (y := _) ?_ rfl q1 q2 q3 ⟨rl_in8 hj, ⟨rl_in8 (j := 0) (by decide), l3⟩, ?_⟩ ?_
  · show (_, _, w) = _
    unfold fa_sum
    rw [key.1]
  · unfold fa_sum_ok
    rw [key.1]
    exact pn_lo hn (by decide)
  · have S : fm_lo (fm_sum m) := pn_lo hn (by decide)
    exact ⟨(rl_base h).1, rl_in8 hj, (rl_base h).2.1, (rl_base h).2.2, fun _ => S, fun q => absurd q (by decide), fun q => absurd q (by decide), fun q => absurd q (by decide), fun q => absurd q (by decide), fun q => absurd q (by decide), fun q => absurd q (by decide), fun q => absurd q (by decide), fun q => absurd q (by decide), fun q => absurd q (by decide), fun q => absurd q (by decide), fun q => absurd q (by decide)⟩
/-- a result is written -/
theorem rl_res {b p : Nat} {l0 : Int32} {w u m : sx_M} (h : rl b p l0 w u m) {k : Nat} (hk : k < 12) (x : Int64) : rl b p l0 w (sx_sL u 7 (vp_updL (sx_L u 7) k x)) (sx_sL m 22 (vp_updL (sx_L m 22) (12 * b + k) x)) ∧ rl_f b p m (sx_sL m 22 (vp_updL (sx_L m 22) (12 * b + k) x)) := by
  obtain ⟨hw, hh, ⟨s0, s1, s2, s3, s4⟩, hn, hp, hb, ha⟩ := h
  refine ⟨⟨hw, hh, ⟨s0, s1, s2, s3, ?_⟩, hn, hp, hb, ha⟩, ⟨fun i _ _ _ _ _ => rfl, fun _ _ => rfl, rfl, fun _ _ => rfl, fun _ _ => rfl, ?_, ?_, ?_, fun _ _ => ⟨rfl, rfl⟩, rfl⟩⟩
  · intro i hi
    have := s4 i hi
    simp only [rg_LL]
    by_cases e : i = k
    · subst e; simp [rg_uL]
    · simp [rg_uL, e, this, show ¬ (12 * b + i = 12 * b + k) by omega]
  · intro i a
    simp only [rg_LL]
    rw [if_neg (by omega)]
  · intro i q a c
    rcases a with rfl | rfl | rfl | rfl <;> simp [rg_LL]
  · intro q hq
    simp [rg_LL, rg_uL, show ¬ (q = 12 * b + k) by omega]
theorem pn_bsb (x y : Int64) : x + (y - x) = y := by rw [Int64.add_comm, Int64.sub_add_cancel]
/-- Tax -/
theorem ra_1 {b p : Nat} {l0 : Int32} {w u m : sx_M} (h : rl b p l0 w u m) (h0 : sx_i m 32 = 0) {j r : Nat} (hj : j < 8) (hr : r < 8) (v : Int32) : rl_ok b p 1 l0 w u m (nI j) (nI r) v := by
  obtain ⟨L, hL, l1, l2, l3, l4⟩ := rl_bill h
  obtain ⟨r1, r2, r3, r4, r5, r6, r7⟩ := rl_rate h hr
  have key : (fa_taxT w u (nI r) v).1 = (fm_txZ m (nI r) v 0).1 ∧ bq (fm_txZ m (nI r) v 0).1 (L * 10000000001) ∧ rl b p l0 w (fa_taxT w u (nI r) v).2 (fm_txZ m (nI r) v 0).2.2 ∧ rl_f b p m (fm_txZ m (nI r) v 0).2.2 ∧ sx_I (fa_taxT w u (nI r) v).2 8 = sx_I u 8 ∧ sx_i (fm_txZ m (nI r) v 0).2.2 32 = 0 := by
    unfold fa_taxT fm_txZ
    rw [l1, l2]
    refine it_rel (R := fun k (z : Int64 × sx_M) (y : Int64 × Int64 × sx_M) => z.1 = y.1 ∧ bq y.1 (k * 10000000001) ∧ rl b p l0 w z.2 y.2.2 ∧ rl_f b p m y.2.2 ∧ sx_I z.2 8 = sx_I u 8 ∧ sx_i y.2.2 32 = 0) (n := L) ?_ L 0 _ _ (by omega) ⟨rfl, by show (0 : Int64).toInt.natAbs ≤ _; decide, h, rl_f.refl _ _ _, rfl, h0⟩
    intro k z y hk ⟨e, hb, hr', hf, e8, e32⟩
    have q := l4 k hk
    have x1 := pn_mul q.2 r3 (by decide)
    have W := law_whole (n := (sx_I u 8 k).toInt64 * (sx_I w 0 r).toInt64) r6 v
    have x2 := pn_timesB (md := v) r6 x1 (by decide)
    have EV : fm_txV y.2.2 (nI r) v 0 y.1 y.2.1 (sx_I y.2.2 18 (nI k).toNatClampNeg) = fm_times ((sx_I u 8 k).toInt64 * (sx_I w 0 r).toInt64) (sx_I w 1 r).toInt64 v := by
      unfold fm_txV fm_txA
      rw [if_pos rfl, if_pos rfl, rl_c (show k < 100000 by omega), rl_c (show r < 100000 by omega), hf.2.2.2.1 18 (by decide), hf.2.2.2.1 1 (by decide), hf.2.2.2.1 2 (by decide), q.1, r1, r2, Int64.sub_zero]
    have EU : fc_whole ((sx_I z.2 8 (nI k).toNatClampNeg).toInt64 * (sx_I w 0 (nI r).toNatClampNeg).toInt64) (sx_I w 1 (nI r).toNatClampNeg).toInt64 v = fm_times ((sx_I u 8 k).toInt64 * (sx_I w 0 r).toInt64) (sx_I w 1 r).toInt64 v := by
      rw [rl_c (show k < 100000 by omega), rl_c (show r < 100000 by omega), e8, W]
    unfold fa_taxB fm_txB
    rw [EV, EU, rl_ix12 hr'.2.1 (show k < 12 by omega), rl_c (show k < 100000 by omega)]
    obtain ⟨t1, t2⟩ := rl_res hr' (show k < 12 by omega) (fm_times ((sx_I u 8 k).toInt64 * (sx_I w 0 r).toInt64) (sx_I w 1 r).toInt64 v)
    refine ⟨?_, bq_mono (pn_add hb x2 (by omega)) (by omega), t1, hf.tr t2, e8, e32⟩
    show z.1 + vp_updL _ k _ k = _
    rw [pk_uLs, e]
  obtain ⟨k1, k2, k3, k4, k5, k6⟩ := key
  have hn : bq (fm_txZ m (nI r) v 0).1 (2 ^ 40) := bq_mono k2 (by omega)
  obtain ⟨q1, q2, q3⟩ := rl_plain k3 k6 hj hn
  refine rl_okI (e := _) (x := _) (y := _) ?_ rfl q1 q2 (k4.tr q3) ⟨rl_in8 hj, ⟨rl_in8 hr, l3⟩, ?_⟩ ?_
  · show (_, _, w) = _
    unfold fa_tax
    rw [k1]
  · unfold fa_tax_ok
    rw [k1, rl_c (show r < 100000 by omega)]
    exact ⟨r7, pn_lo hn (by decide)⟩
  · have S : vp_in (nI r) 8 ∧ ¬ (sx_I m 2 (nI r).toNatClampNeg).toInt64 = 0 ∧ fm_lo (fm_txZ m (nI r) v 0).1 := by
      rw [rl_c (show r < 100000 by omega), r2]
      exact ⟨rl_in8 hr, r7, pn_lo hn (by decide)⟩
    exact ⟨(rl_base h).1, rl_in8 hj, (rl_base h).2.1, (rl_base h).2.2, fun q => absurd q (by decide), fun _ => S, fun q => absurd q (by decide), fun q => absurd q (by decide), fun q => absurd q (by decide), fun q => absurd q (by decide), fun q => absurd q (by decide), fun q => absurd q (by decide), fun q => absurd q (by decide), fun q => absurd q (by decide), fun q => absurd q (by decide), fun q => absurd q (by decide)⟩
/-- Flow -/
theorem ra_2 {b p : Nat} {l0 : Int32} {w u m : sx_M} (h : rl b p l0 w u m) (h0 : sx_i m 32 = 0) {j r : Nat} (hj : j < 8) (hr : r < 8) (v : Int32) : rl_ok b p 2 l0 w u m (nI j) (nI r) v := by
  obtain ⟨L, hL, l1, l2, l3, l4⟩ := rl_bill h
  obtain ⟨r1, r2, r3, r4, r5, r6, r7⟩ := rl_rate h hr
  have key : (fa_flowT w u (nI r) v).1 = (fm_txZ m (nI r) v 1).2.1 ∧ (fa_flowT w u (nI r) v).2.1 = (fm_txZ m (nI r) v 1).1 ∧ bq (fm_txZ m (nI r) v 1).1 200000000000 ∧ bq (fm_txZ m (nI r) v 1).2.1 (L * 1000000) ∧ rl b p l0 w (fa_flowT w u (nI r) v).2.2 (fm_txZ m (nI r) v 1).2.2 ∧ rl_f b p m (fm_txZ m (nI r) v 1).2.2 ∧ sx_I (fa_flowT w u (nI r) v).2.2 8 = sx_I u 8 ∧ sx_i (fm_txZ m (nI r) v 1).2.2 32 = 0 := by
    unfold fa_flowT fm_txZ
    rw [l1, l2]
    refine it_rel (R := fun k (z : Int64 × Int64 × sx_M) (y : Int64 × Int64 × sx_M) => z.1 = y.2.1 ∧ z.2.1 = y.1 ∧ bq y.1 200000000000 ∧ bq y.2.1 (k * 1000000) ∧ rl b p l0 w z.2.2 y.2.2 ∧ rl_f b p m y.2.2 ∧ sx_I z.2.2 8 = sx_I u 8 ∧ sx_i y.2.2 32 = 0) (n := L) ?_ L 0 _ _ (by omega) ⟨rfl, rfl, by show (0 : Int64).toInt.natAbs ≤ _; decide, by show (0 : Int64).toInt.natAbs ≤ _; decide, h, rl_f.refl _ _ _, rfl, h0⟩
    intro k z y hk ⟨e, e', hb, hb2, hr', hf, e8, e32⟩
    have q := l4 k hk
    have x0 := pn_add hb2 q.2 (by omega)
    have x1 := pn_mul x0 r3 (by omega)
    have W := law_whole (n := (y.2.1 + (sx_I u 8 k).toInt64) * (sx_I w 0 r).toInt64) r6 v
    have x2 := pn_timesB (md := v) r6 x1 (by omega)
    have EV : fm_txV y.2.2 (nI r) v 1 y.1 y.2.1 (sx_I y.2.2 18 (nI k).toNatClampNeg) = fm_times ((y.2.1 + (sx_I u 8 k).toInt64) * (sx_I w 0 r).toInt64) (sx_I w 1 r).toInt64 v - y.1 := by
      unfold fm_txV fm_txA
      rw [if_neg (by decide : ¬ (1 : Int32) = 0), if_neg (by decide : ¬ (1 : Int32) = 0), rl_c (show k < 100000 by omega), rl_c (show r < 100000 by omega), hf.2.2.2.1 18 (by decide), hf.2.2.2.1 1 (by decide), hf.2.2.2.1 2 (by decide), q.1, r1, r2]
    have EA : fm_txA 1 y.2.1 (sx_I y.2.2 18 (nI k).toNatClampNeg) = y.2.1 + (sx_I u 8 k).toInt64 := by
      unfold fm_txA
      rw [if_neg (by decide : ¬ (1 : Int32) = 0), rl_c (show k < 100000 by omega), hf.2.2.2.1 18 (by decide), q.1]
    have EU : fc_whole ((z.1 + (sx_I z.2.2 8 (nI k).toNatClampNeg).toInt64) * (sx_I w 0 (nI r).toNatClampNeg).toInt64) (sx_I w 1 (nI r).toNatClampNeg).toInt64 v = fm_times ((y.2.1 + (sx_I u 8 k).toInt64) * (sx_I w 0 r).toInt64) (sx_I w 1 r).toInt64 v := by
      rw [rl_c (show k < 100000 by omega), rl_c (show r < 100000 by omega), e8, e, W]
    unfold fa_flowB fm_txB
    rw [EV, EA, EU, rl_ix12 hr'.2.1 (show k < 12 by omega), rl_c (show k < 100000 by omega), e']
    obtain ⟨t1, t2⟩ := rl_res hr' (show k < 12 by omega) (fm_times ((y.2.1 + (sx_I u 8 k).toInt64) * (sx_I w 0 r).toInt64) (sx_I w 1 r).toInt64 v - y.1)
    refine ⟨?_, ?_, ?_, bq_mono x0 (by omega), t1, hf.tr t2, e8, e32⟩
    · show z.1 + _ = _
      rw [e, e8]
    · show y.1 + vp_updL _ k _ k = y.1 + _
      rw [pk_uLs]
    · show bq (y.1 + _) _
      rw [pn_bsb]
      exact bq_mono x2 (by omega)
  obtain ⟨k0, k1, k2, _, k3, k4, k5, k6⟩ := key
  have hn : bq (fm_txZ m (nI r) v 1).1 (2 ^ 40) := bq_mono k2 (by decide)
  obtain ⟨q1, q2, q3⟩ := rl_plain k3 k6 hj hn
  refine rl_okI (e := _) (x := _) (y := _) ?_ rfl q1 q2 (k4.tr q3) ⟨rl_in8 hj, ⟨rl_in8 hr, l3⟩, ?_⟩ ?_
  · show (_, _, w) = _
    unfold fa_flow
    rw [k1]
  · unfold fa_flow_ok
    rw [k1, rl_c (show r < 100000 by omega)]
    exact ⟨r7, pn_lo hn (by decide)⟩
  · have S : vp_in (nI r) 8 ∧ ¬ (sx_I m 2 (nI r).toNatClampNeg).toInt64 = 0 ∧ fm_lo (fm_txZ m (nI r) v 1).1 := by
      rw [rl_c (show r < 100000 by omega), r2]
      exact ⟨rl_in8 hr, r7, pn_lo hn (by decide)⟩
    exact ⟨(rl_base h).1, rl_in8 hj, (rl_base h).2.1, (rl_base h).2.2, fun q => absurd q (by decide), fun q => absurd q (by decide), fun _ => S, fun q => absurd q (by decide), fun q => absurd q (by decide), fun q => absurd q (by decide), fun q => absurd q (by decide), fun q => absurd q (by decide), fun q => absurd q (by decide), fun q => absurd q (by decide), fun q => absurd q (by decide), fun q => absurd q (by decide)⟩
