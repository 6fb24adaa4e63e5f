/-! a run: any act, the acts in a row, the beginning of a run. Own work. -/
set_option maxRecDepth 100000
/-- t and v as a kind wants them -/
def fit (a : Nat) (t v : Int32) : Prop := match a with
  | 0 => t = 0 ∧ v = 0
  | 1 => vp_in t 8 ∧ vp_in v 6
  | 2 => vp_in t 8 ∧ vp_in v 6
  | 3 => vp_in t 8 ∧ vp_in v 8
  | 4 => vp_in t 6 ∧ 1 ≤ v.toInt ∧ v.toInt ≤ 100
  | 5 => vp_in t 8 ∧ vp_in v 2
  | 6 => vp_in t 4 ∧ vp_in v 4
  | 7 => vp_in t 8 ∧ v = 0
  | 8 => t = 0 ∧ v = 0
  | 9 => vp_in t 2 ∧ 0 ≤ v.toInt ∧ v.toInt ≤ 1000000
  | 10 => vp_in t 8 ∧ vp_in v 2
  | 11 => vp_in t 8 ∧ vp_in v 6
  | 12 => vp_in t 8 ∧ 1 ≤ v.toInt ∧ v.toInt ≤ 30
  | _ => False
theorem fit_lt {a : Nat} {t v : Int32} (h : fit a t v) : a < 13 := by
  apply Nat.not_le.mp
  intro q
  obtain ⟨c, rfl⟩ : ∃ c, a = c + 13 := ⟨a - 13, by omega⟩
  exact h
theorem ra_any {b p a : Nat} {l0 : Int32} {w u m : sx_M} (h : rl b p l0 w u m) (h0 : sx_i m 32 = 0) (hp : p < 4) {s t v : Int32} (hs : vp_in s 8) (hf : fit a t v) : rl_ok b p a l0 w u m s t v := by
  obtain ⟨j, hj, rfl⟩ := vp_in_of hs (by decide)
  have ha := fit_lt hf
  rcases (by omega : a = 0 ∨ a = 1 ∨ a = 2 ∨ a = 3 ∨ a = 4 ∨ a = 5 ∨ a = 6 ∨ a = 7 ∨ a = 8 ∨ a = 9 ∨ a = 10 ∨ a = 11 ∨ a = 12) with rfl | rfl | rfl | rfl | rfl | rfl | rfl | rfl | rfl | rfl | rfl | rfl | rfl
  · obtain ⟨rfl, rfl⟩ := hf
    exact ra_0 h h0 hj
  · obtain ⟨i, hi, rfl⟩ := vp_in_of hf.1 (by decide)
    exact ra_1 h h0 hj hi v
  · obtain ⟨i, hi, rfl⟩ := vp_in_of hf.1 (by decide)
    exact ra_2 h h0 hj hi v
  · obtain ⟨i, hi, rfl⟩ := vp_in_of hf.1 (by decide)
    obtain ⟨r, hr, rfl⟩ := vp_in_of hf.2 (by decide)
    exact ra_3 h h0 hj hi hr
  · exact ra_4 h h0 hj t hf.2.1 hf.2.2
  · obtain ⟨i, hi, rfl⟩ := vp_in_of hf.1 (by decide)
    exact ra_5 h h0 hj hi v
  · obtain ⟨i, hi, rfl⟩ := vp_in_of hf.1 (by decide)
    obtain ⟨r, hr, rfl⟩ := vp_in_of hf.2 (by decide)
    exact ra_6 h h0 hj hi hr
  · obtain ⟨i, hi, rfl⟩ := vp_in_of hf.1 (by decide)
    exact ra_7 h h0 hj hi v
  · exact ra_8 h h0 hp hj t v
  · exact ra_9 h h0 hj t hf.2.1 hf.2.2
  · obtain ⟨i, hi, rfl⟩ := vp_in_of hf.1 (by decide)
    exact ra_10 h h0 hj hi v
  · obtain ⟨i, hi, rfl⟩ := vp_in_of hf.1 (by decide)
    exact ra_11 h h0 hj hi v
  · obtain ⟨i, hi, rfl⟩ := vp_in_of hf.1 (by decide)
    exact ra_12 h h0 hj hi (vp_in_iff.mpr (by have := hf.2; omega))
/-- the model has the program p as A, of n acts -/
def rp (A : fp_A) (n p : Nat) (m : sx_M) : Prop := n ≤ 20 ∧ sx_I m 8 p = nI n ∧ ∀ k, k < n → sx_I m 9 (20 * p + k) = nI (A k).1 ∧ sx_I m 10 (20 * p + k) = (A k).2.1 ∧ sx_I m 11 (20 * p + k) = (A k).2.2.1 ∧ sx_I m 12 (20 * p + k) = (A k).2.2.2 ∧ vp_in (A k).2.1 8 ∧ fit (A k).1 (A k).2.2.1 (A k).2.2.2
theorem rp_f {A : fp_A} {n p b q : Nat} {m x : sx_M} (h : rp A n p m) (f : rl_f b q m x) : rp A n p x := by
  unfold rp
  rw [f.2.2.2.1 8 (by decide), f.2.2.2.1 9 (by decide), f.2.2.2.1 10 (by decide), f.2.2.2.1 11 (by decide), f.2.2.2.1 12 (by decide)]
  exact h
theorem rp_ix {p k : Nat} (hp : p < 4) (hk : k < 20) : (20 * nI p + nI k : Int32).toNatClampNeg = 20 * p + k := by
  rw [show (20 * nI p : Int32) = nI (20 * p) from pk_mul 20 p, nI_add, nI_clamp (by omega)]
/-- one act of a program -/
theorem rp_one {A : fp_A} {n p b k : Nat} {l0 : Int32} {w u m : sx_M} (hA : rp A n p m) (hp : p < 4) (hk : k < n) (h : rl b p l0 w u m) (h0 : sx_i m 32 = 0) :
    (fa_one A k (w, u)).1 = sx_i (fm_act1 m (nI p) k) 32 ∧ rl b p l0 (fa_one A k (w, u)).2.2 (fa_one A k (w, u)).2.1 (fm_act1 m (nI p) k) ∧ rl_f b p m (fm_act1 m (nI p) k) ∧ (∃ g, (fa_one A k (w, u)).2.2 = sx_sL w 14 g) ∧ fa_oneOk A k (w, u) ∧
      vp_in (sx_I m 9 (20 * nI p + nI k).toNatClampNeg) 13 ∧ fm_doesOk m (nI p) (sx_I m 9 (20 * nI p + nI k).toNatClampNeg) (sx_I m 10 (20 * nI p + nI k).toNatClampNeg) (sx_I m 11 (20 * nI p + nI k).toNatClampNeg) (sx_I m 12 (20 * nI p + nI k).toNatClampNeg) := by
  obtain ⟨h20, _, hk2⟩ := hA
  obtain ⟨e1, e2, e3, e4, e5, e6⟩ := hk2 k hk
  obtain ⟨o1, o2, o3, o4, o5, o6⟩ := ra_any h h0 hp e5 e6
  unfold fm_act1 fa_one fa_oneOk
  rw [rp_ix hp (by omega), e1, e2, e3, e4]
  exact ⟨o1, o2, o3, o4, o5, vp_in_nI (fit_lt e6) (by decide), o6⟩
/-- what a model's run that failed puts back -/
theorem rn_Z {b p : Nat} {m : sx_M} (hh : rl_h b m) (hp : p < 4) (cu cl : Int64) : ∃ f23 f24 f25, fm_rnZ (4 * nI b + nI p) cu cl m = sx_si (sx_sL (sx_sL (sx_sL m 23 f23) 24 f24) 25 f25) 31 0 ∧ (∀ k, k < 8 → f23 (8 * b + k) = sx_L m 41 k) ∧ (∀ k, k < 8 * b ∨ 8 * b + 8 ≤ k → f23 k = sx_L m 23 k) ∧ f24 (4 * b + p) = cu ∧ f25 (4 * b + p) = cl ∧ (∀ k, k ≠ 4 * b + p → f24 k = sx_L m 24 k ∧ f25 k = sx_L m 25 k) := by
  have ix : (4 * nI b + nI p : Int32).toNatClampNeg = 4 * b + p := by rw [← hh.1]; exact rl_ix4 hh hp
  have L : ∃ f, it_up fm_rnB 8 0 m = sx_sL m 23 f ∧ (∀ k, k < 8 → f (8 * b + k) = sx_L m 41 k) ∧ (∀ k, k < 8 * b ∨ 8 * b + 8 ≤ k → f k = sx_L m 23 k) := by
    refine it_inv (P := fun k (z : sx_M) => ∃ f, z = sx_sL m 23 f ∧ (∀ i, i < k → f (8 * b + i) = sx_L m 41 i) ∧ (∀ k, k < 8 * b ∨ 8 * b + 8 ≤ k → f k = sx_L m 23 k)) (n := 8) ?_ 8 0 m (by omega) ⟨sx_L m 23, ?_, fun i hi => absurd hi (by omega), fun _ _ => rfl⟩
    · intro k z hk ⟨f, e, h1, h2⟩
      subst e
      unfold fm_rnB
      rw [show sx_i (sx_sL m 23 f) 16 = sx_i m 16 from rfl, rl_ix hh hk, rl_ss, rl_c (show k < 100000 by omega), show sx_L (sx_sL m 23 f) 23 = f from rfl, show sx_L (sx_sL m 23 f) 41 = sx_L m 41 from rfl]
      refine ⟨_, rfl, fun i hi => ?_, fun i hi => ?_⟩
      · rw [rg_uL]
        by_cases e : i = k
        · rw [if_pos (by omega), e]
        · rw [if_neg (by omega)]; exact h1 i (by omega)
      · rw [rg_uL, if_neg (by omega)]; exact h2 i hi
    · have : va_up m.2.2.2.2.1 23 (sx_L m 23) = m.2.2.2.2.1 := by
        funext i
        unfold va_up
        by_cases h : i = 23
        · rw [if_pos h, h]
        · rw [if_neg h]
      unfold sx_sL
      rw [this]
  obtain ⟨f, e, h1, h2⟩ := L
  unfold fm_rnZ
  rw [e, ix]
  refine ⟨f, _, _, rfl, h1, h2, ?_, ?_, fun k hk => ⟨?_, ?_⟩⟩
  · rw [rg_uL, if_pos rfl]
  · rw [rg_uL, if_pos rfl]
  · rw [rg_uL, if_neg hk]; rfl
  · rw [rg_uL, if_neg hk]; rfl
/-- what a failed run leaves: slots, parts, results as they were when it failed -/
def rl_x (b p : Nat) (w u m : sx_M) : Prop := rl_w w m ∧ rl_h b m ∧ rl_s b u m ∧ rl_nu u ∧ rl_p u m ∧ rl_b u m
theorem fr_put1 (u : sx_M) (s : Int32) (n e : Int64) : (fr_put u s n e).1 = 0 ∨ (fr_put u s n e).1 < 0 := by
  unfold fr_put
  repeat' split
  all_goals first | exact Or.inl rfl | exact Or.inr (show (-6 : Int32) < 0 by decide)
theorem fa_dayR (w : sx_M) (s t : Int32) : ∀ n u, (fa_dayL w s t n u).1 = 0 ∨ (fa_dayL w s t n u).1 < 0 := by
  intro n
  induction n with
  | zero => intro u; exact Or.inl rfl
  | succ n ih =>
    intro u
    unfold fa_dayL
    split
    · exact ih _
    · exact fr_put1 _ _ _ _
theorem fa_res (A : fp_A) (k : Nat) (w u : sx_M) : (fa_one A k (w, u)).1 = 0 ∨ (fa_one A k (w, u)).1 < 0 := by
  unfold fa_one fa_doesN
  split
  · exact fr_put1 _ _ _ _
  · exact fr_put1 _ _ _ _
  · exact fr_put1 _ _ _ _
  · unfold fa_rated; split <;> exact fr_put1 _ _ _ _
  · exact fr_put1 _ _ _ _
  · unfold fa_added; (repeat' split) <;> exact fr_put1 _ _ _ _
  · unfold fa_split; split
    · exact Or.inr (show (-5 : Int32) < 0 by decide)
    · exact Or.inl rfl
  · unfold fa_part; split <;> exact fr_put1 _ _ _ _
  · unfold fa_carry; split <;> exact fr_put1 _ _ _ _
  · unfold fa_cap; (repeat' split) <;> first | exact Or.inl rfl | exact fr_put1 _ _ _ _
  · unfold fa_book; (repeat' split) <;> first | exact Or.inl rfl | exact Or.inr (show (-5 : Int32) < 0 by decide)
  · unfold fa_show; split <;> exact fr_put1 _ _ _ _
  · exact fa_dayR _ _ _ _ _
  · exact Or.inl rfl
/-- the acts in a row -/
theorem rn_loop {A : fp_A} {n p b : Nat} {l0 : Int32} (hp : p < 4) (cu cl : Int64) : ∀ (e k : Nat) (w u m : sx_M), k + e = n → rp A n p m → rl b p l0 w u m → sx_i m 32 = 0 →
    fa_runA A e k (w, u) ∧
    (((fa_runL A e k (w, u)).1 = none ∧ (fm_rnL (nI p) (4 * nI b + nI p) cu cl e k m).1 = -2 ∧ rl b p l0 (fa_runL A e k (w, u)).2.1 (fa_runL A e k (w, u)).2.2 (fm_rnL (nI p) (4 * nI b + nI p) cu cl e k m).2 ∧ rl_f b p m (fm_rnL (nI p) (4 * nI b + nI p) cu cl e k m).2 ∧ sx_i (fm_rnL (nI p) (4 * nI b + nI p) cu cl e k m).2 32 = 0 ∧ (∃ g, (fa_runL A e k (w, u)).2.1 = sx_sL w 14 g)) ∨
     (∃ i r, i < n ∧ (fa_runL A e k (w, u)).1 = some (i, r) ∧ ¬ r = 0 ∧ r < 0 ∧ (fm_rnL (nI p) (4 * nI b + nI p) cu cl e k m).1 = nI i ∧ sx_i (fm_rnL (nI p) (4 * nI b + nI p) cu cl e k m).2 32 = r ∧ sx_i (fm_rnL (nI p) (4 * nI b + nI p) cu cl e k m).2 31 = 0 ∧ rl_x b p (fa_runL A e k (w, u)).2.1 (fa_runL A e k (w, u)).2.2 (fm_rnL (nI p) (4 * nI b + nI p) cu cl e k m).2 ∧
       rl_f b p m (fm_rnL (nI p) (4 * nI b + nI p) cu cl e k m).2 ∧ (∃ g, (fa_runL A e k (w, u)).2.1 = sx_sL w 14 g) ∧ (∀ q, q < 8 → sx_L (fm_rnL (nI p) (4 * nI b + nI p) cu cl e k m).2 23 (8 * b + q) = sx_L m 41 q) ∧ sx_L (fm_rnL (nI p) (4 * nI b + nI p) cu cl e k m).2 24 (4 * b + p) = cu ∧ sx_L (fm_rnL (nI p) (4 * nI b + nI p) cu cl e k m).2 25 (4 * b + p) = cl)) := by
  intro e
  induction e with
  | zero =>
    intro k w u m hk hA h h0
    exact ⟨True.intro, Or.inl ⟨rfl, rfl, h, rl_f.refl _ _ _, h0, ⟨_, rl_same14 w⟩⟩⟩
  | succ e ih =>
    intro k w u m hk hA h h0
    obtain ⟨o1, o2, o3, ⟨g, o4⟩, o5, o6, o7⟩ := rp_one hA hp (show k < n by omega) h h0
    have h41 : sx_L (fm_act1 m (nI p) k) 41 = sx_L m 41 := o3.2.2.2.2.2.1 41 (by omega)
    unfold fa_runL fm_rnL fa_runA
    by_cases c : (fa_one A k (w, u)).1 = 0
    · have c2 : sx_i (fm_act1 m (nI p) k) 32 = 0 := by rw [← o1]; exact c
      rw [if_pos c, if_pos c2]
      obtain ⟨i1, i2⟩ := ih (k + 1) _ _ _ (by omega) (rp_f hA o3) o2 c2
      refine ⟨⟨o5, fun _ => i1⟩, ?_⟩
      rcases i2 with ⟨j1, j2, j3, j4, j5, ⟨g2, j6⟩⟩ | ⟨i, r, j1, j2, j3, j4, j5, j6, j7, j8, j9, ⟨g2, j10⟩, j11, j12, j13⟩
      · exact Or.inl ⟨j1, j2, j3, o3.tr j4, j5, ⟨g2, by rw [j6, o4, rl_ss]⟩⟩
      · exact Or.inr ⟨i, r, j1, j2, j3, j4, j5, j6, j7, j8, o3.tr j9, ⟨g2, by rw [j10, o4, rl_ss]⟩, fun q hq => by rw [j11 q hq, h41], j12, j13⟩
    · have c2 : ¬ sx_i (fm_act1 m (nI p) k) 32 = 0 := by rw [← o1]; exact c
      rw [if_neg c, if_neg c2]
      refine ⟨⟨o5, fun q => absurd q c⟩, Or.inr ⟨k, _, by omega, rfl, c, ?_, rfl, ?_⟩⟩
      · exact (fa_res A k w u).resolve_left c
      · obtain ⟨f23, f24, f25, E, z1, z2, z3, z4, z5⟩ := rn_Z o2.2.1 hp cu cl
        dsimp only
        rw [E]
        obtain ⟨hw, hh, hs, hn, hpp, hb, ha⟩ := o2
        refine ⟨o1.symm, rfl, ⟨hw, hh, hs, hn, hpp, hb⟩, o3.tr ⟨fun i _ _ _ i4 _ => if_neg i4, fun _ _ => rfl, rfl, fun _ _ => rfl, fun _ _ => rfl, fun i i1 => ?_, fun i q i1 i2 => ?_, fun _ _ => rfl, fun q hq => ⟨(z5 q hq).1, (z5 q hq).2⟩, rfl⟩, ⟨g, o4⟩, fun q hq => ?_, z3, z4⟩
        · simp only [rg_LL, rg_Li]
          rw [if_neg (by omega), if_neg (by omega), if_neg (by omega)]
        · rcases i1 with rfl | rfl | rfl | rfl
          · rfl
          · rfl
          · rfl
          · exact z2 q i2
        · show f23 (8 * b + q) = _
          rw [z1 q hq, h41]
