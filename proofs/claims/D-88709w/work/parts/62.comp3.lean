/-! PennyJudge: farShare turn begin (by tools/gen_p3.py) -/
set_option maxRecDepth 100000
def fc_fsO (c : sx_C) (sum : Int32) (w : Int64) (k : Nat) : Int64 := sx_L (sx_R c 1) 3 (nI k).toNatClampNeg * w - sx_l (sx_R c 1) 6 * (fc_weightOf c.1 (sx_i (sx_R c 1) 5) (nI k) sum).toInt64
def fc_fsB (c : sx_C) (sum : Int32) (w : Int64) (k : Nat) : Int32 := if w ≤ fc_fsO c sum w k then 1 else if -w < fc_fsO c sum w k then 0 else 1
theorem ly_fc_fs {G : pj_G} {d : Nat} {c : sx_C} {m : sx_M} {o : Nat → Int64} {D : pj_H} {Q : pj_O → pj_H → Prop} (sum : Int32) (w : Int64) (n : Nat) (hn8 : n ≤ 8) (hs : vp_in (sx_i (sx_R c 1) 5) 4) (k : Nat) (hk : k < n) (q : ¬ fc_fsB c sum w k = 0 → Q (.inl (some (.int 1))) (sx_mk c m o D)) (kk : fc_fsB c sum w k = 0 → pj_J G mX1_farShare (d + 1) 61 [some (.ref 2), some (.int sum), some (.int (nI n)), some (.long w), none, some (.int (nI k + 1)), none, none] [] (sx_mk c m o D) 0 0 Q) : pj_J G mX1_farShare (d + 1) 61 [some (.ref 2), some (.int sum), some (.int (nI n)), some (.long w), none, some (.int (nI k)), none, none] [] (sx_mk c m o D) 0 0 Q := by
  refine pj_J.go (oX1_farShare G) 3 rfl trivial ?_
  refine pj_J.neg (nI_lt_lit hk (by omega)) ?_
  refine pj_J.go (oX1_farShare G) 16 rfl ⟨by exact vp_in_lit (by omega), trivial⟩ ?_
  refine pj_J.cal0 kX1_farShare_97 (c_X1_weightOf (c := c) (sx_i (sx_R c 1) 5) (nI k) sum hs (vp_in_lit (by omega))) ⟨_, _, _, rfl, rfl⟩ pj_le0 pj_le0 pj_le0 ?_
  refine pj_J.go (oX1_farShare G) 8 rfl trivial ?_
  refine pj_J.ite (fun hc109 => ?_) (fun hc109 => ?_)
  · simp only [pj_lc_ge] at hc109
    refine pj_J.go (oX1_farShare G) 1 rfl trivial ?_
    have e : fc_fsB c sum w k = 1 := by unfold fc_fsB; rw [if_pos (show w ≤ fc_fsO c sum w k from hc109)]
    exact pj_zret dX1_farShare_121 rfl (by first | exact Or.inl rfl | exact Or.inr rfl | exact pj_b01 _ | assumption) (q (by rw [e]; decide))
  · simp only [pj_lc_ge] at hc109
    refine pj_J.go (oX1_farShare G) 5 rfl trivial ?_
    refine pj_J.ite (fun hc117 => ?_) (fun hc117 => ?_)
    · simp only [pj_lc_gt] at hc117
      refine pj_J.go (oX1_farShare G) 2 rfl trivial ?_
      have e : fc_fsB c sum w k = 0 := by unfold fc_fsB; rw [if_neg (show ¬ (w ≤ fc_fsO c sum w k) from hc109), if_pos (show -w < fc_fsO c sum w k from hc117)]
      exact pj_J.drp (kk e) ⟨rfl, rfl, rfl, rfl, rfl, trivial⟩
    · simp only [pj_lc_gt] at hc117
      refine pj_J.go (oX1_farShare G) 1 rfl trivial ?_
      have e : fc_fsB c sum w k = 1 := by unfold fc_fsB; rw [if_neg (show ¬ (w ≤ fc_fsO c sum w k) from hc109), if_neg (show ¬ (-w < fc_fsO c sum w k) from hc117)]
      exact pj_zret dX1_farShare_121 rfl (by first | exact Or.inl rfl | exact Or.inr rfl | exact pj_b01 _ | assumption) (q (by rw [e]; decide))
theorem lz_fc_fs {G : pj_G} {d : Nat} {c : sx_C} {m : sx_M} {o : Nat → Int64} {D : pj_H} {Q : pj_O → pj_H → Prop} (sum : Int32) (w : Int64) (n : Nat) (hn8 : n ≤ 8) (hs : vp_in (sx_i (sx_R c 1) 5) 4) (q : Q (.inl (some (.int 0))) (sx_mk c m o D)) : pj_J G mX1_farShare (d + 1) 61 [some (.ref 2), some (.int sum), some (.int (nI n)), some (.long w), none, some (.int (nI n)), none, none] [] (sx_mk c m o D) 0 0 Q := by
  refine pj_J.go (oX1_farShare G) 3 rfl trivial ?_
  refine pj_J.pos (nI_ge_lit (Nat.le_refl _) (by omega)) ?_
  refine pj_J.go (oX1_farShare G) 1 rfl trivial ?_
  exact pj_zret dX1_farShare_129 rfl (by first | exact Or.inl rfl | exact Or.inr rfl | exact pj_b01 _ | assumption) q
def fc_fsL (c : sx_C) (sum : Int32) (w : Int64) : Nat → Nat → Int32
  | 0, _ => 0
  | e + 1, k => if fc_fsB c sum w k = 0 then fc_fsL c sum w e (k + 1) else 1
theorem lp_fc_fs {G : pj_G} {d : Nat} {c : sx_C} {m : sx_M} {o : Nat → Int64} {D : pj_H} {Q : pj_O → pj_H → Prop} (sum : Int32) (w : Int64) (n : Nat) (hn8 : n ≤ 8) (hs : vp_in (sx_i (sx_R c 1) 5) 4) : ∀ e k, k + e = n → Q (.inl (some (.int (fc_fsL c sum w e k)))) (sx_mk c m o D) → pj_J G mX1_farShare (d + 1) 61 [some (.ref 2), some (.int sum), some (.int (nI n)), some (.long w), none, some (.int (nI k)), none, none] [] (sx_mk c m o D) 0 0 Q := by
  intro e
  induction e with
  | zero =>
    intro k hk q
    have : k = n := by omega
    subst this
    exact lz_fc_fs sum w k hn8 hs q
  | succ e ih =>
    intro k hk q
    unfold fc_fsL at q
    refine ly_fc_fs sum w n hn8 hs k (by omega) (fun h => ?_) (fun h => ?_)
    · rw [if_neg h] at q
      exact q
    · rw [if_pos h] at q
      rw [nI_add1]
      exact ih (k + 1) (by omega) q
def fc_many (u : sx_M) (set sum : Int32) : Int32 := if sum = 0 then 2 else sx_I u 5 set.toNatClampNeg
def fc_wOf (sum : Int32) : Int64 := if sum = 0 then 2 else sum.toInt64
theorem fc_many_vp {u : sx_M} {set : Int32} (hw : vp_in (sx_I u 5 set.toNatClampNeg) 9) (sum : Int32) : ∃ n, n ≤ 8 ∧ fc_many u set sum = nI n := by
  unfold fc_many
  split
  · exact ⟨2, by omega, rfl⟩
  · obtain ⟨j, hj, e⟩ := vp_in_of hw (by decide)
    exact ⟨j, by omega, e⟩
def fc_farShare (c : sx_C) : Int32 := if 0 ≤ sx_i (sx_R c 1) 5 then fc_fsL c (fc_wholeWeight c.1 (sx_i (sx_R c 1) 5)) (fc_wOf (fc_wholeWeight c.1 (sx_i (sx_R c 1) 5))) (fc_many c.1 (sx_i (sx_R c 1) 5) (fc_wholeWeight c.1 (sx_i (sx_R c 1) 5))).toNatClampNeg 0 else 0
theorem fc_fsL01 (c : sx_C) (sum : Int32) (w : Int64) : ∀ e k, fc_fsL c sum w e k = 0 ∨ fc_fsL c sum w e k = 1 := by
  intro e
  induction e with
  | zero => intro k; exact Or.inl rfl
  | succ e ih =>
    intro k
    unfold fc_fsL
    split
    · exact ih _
    · exact Or.inr rfl
theorem fc_farShare01 (c : sx_C) : fc_farShare c = 0 ∨ fc_farShare c = 1 := by
  unfold fc_farShare
  split
  · exact fc_fsL01 _ _ _ _ _
  · exact Or.inl rfl
theorem c_X1_farShare0 {G : pj_G} {d : Nat} {c : sx_C} {m : sx_M} {o : Nat → Int64} {D : pj_H} (h : ¬ 0 ≤ sx_i (sx_R c 1) 5) : pj_Rt G mX1_farShare (d + 1) [.ref 2] (sx_mk c m o D) 0 0 (some (.int (fc_farShare c))) (sx_mk c m o D) := by
  unfold fc_farShare
  rw [if_neg h]
  refine pj_Cn.start ?_
  refine pj_J.go (oX1_farShare G) 4 rfl trivial ?_
  refine pj_J.neg (h) ?_
  refine pj_J.go (oX1_farShare G) 1 rfl trivial ?_
  exact pj_zret dX1_farShare_11 rfl (by first | exact Or.inl rfl | exact Or.inr rfl | exact pj_b01 _ | assumption) ⟨rfl, rfl⟩
theorem c_X1_farShare1 {G : pj_G} {d : Nat} {c : sx_C} {m : sx_M} {o : Nat → Int64} {D : pj_H} (hs : vp_in (sx_i (sx_R c 1) 5) 4) (hw : ∀ k, k < 4 → vp_in (sx_I c.1 5 k) 9) : pj_Rt G mX1_farShare (d + 1) [.ref 2] (sx_mk c m o D) 0 0 (some (.int (fc_farShare c))) (sx_mk c m o D) := by
  have h0 : (0 : Int32) ≤ sx_i (sx_R c 1) 5 := by
    obtain ⟨j, hj, e⟩ := vp_in_of hs (by decide)
    rw [e]
    exact nI_nn2 (by omega)
  unfold fc_farShare
  rw [if_pos h0]
  obtain ⟨n, hn8, hn⟩ := fc_many_vp (hw _ (vp_lt hs)) (fc_wholeWeight c.1 (sx_i (sx_R c 1) 5))
  rw [hn, nI_clamp (by omega)]
  refine pj_Cn.start ?_
  refine pj_J.go (oX1_farShare G) 4 rfl trivial ?_
  refine pj_J.pos (h0) ?_
  refine pj_J.go (oX1_farShare G) 4 rfl trivial ?_
  refine pj_J.cal0 kX1_farShare_20 (c_X1_wholeWeight (c := c) (sx_i (sx_R c 1) 5) hs (hw _ (vp_lt hs))) ⟨_, _, _, rfl, rfl⟩ pj_le0 pj_le0 pj_le0 ?_
  refine pj_J.go (oX1_farShare G) 3 rfl trivial ?_
  refine pj_J.ite (fun hc25 => ?_) (fun hc25 => ?_)
  · skip
    refine pj_J.go (oX1_farShare G) 5 rfl trivial ?_
    refine pj_J.pos (hc25) ?_
    refine pj_J.go (oX1_farShare G) 5 rfl trivial ?_
    unfold fc_many at hn
    unfold fc_wOf
    rw [if_pos (show (fc_wholeWeight c.1 (sx_i (sx_R c 1) 5)) = (0 : Int32) from hc25)] at hn
    rw [if_pos (show (fc_wholeWeight c.1 (sx_i (sx_R c 1) 5)) = (0 : Int32) from hc25)]
    refine pj_J.drop (L' := [some (.ref 2), some (.int (fc_wholeWeight c.1 (sx_i (sx_R c 1) 5))), some (.int (nI n)), some (.long (2 : Int64)), none, some (.int (nI 0)), none, none]) ⟨rfl, by rfl, by first | rfl | (rw [hn]), by rfl, rfl, trivial⟩ ?_
    exact lp_fc_fs _ _ n hn8 hs n 0 (by omega) ⟨rfl, rfl⟩
  · skip
    refine pj_J.go (oX1_farShare G) 9 rfl ⟨by exact hs, trivial⟩ ?_
    refine pj_J.neg (hc25) ?_
    refine pj_J.go (oX1_farShare G) 5 rfl trivial ?_
    unfold fc_many at hn
    unfold fc_wOf
    rw [if_neg (show ¬ ((fc_wholeWeight c.1 (sx_i (sx_R c 1) 5)) = (0 : Int32)) from hc25)] at hn
    rw [if_neg (show ¬ ((fc_wholeWeight c.1 (sx_i (sx_R c 1) 5)) = (0 : Int32)) from hc25)]
    refine pj_J.drop (L' := [some (.ref 2), some (.int (fc_wholeWeight c.1 (sx_i (sx_R c 1) 5))), some (.int (nI n)), some (.long ((fc_wholeWeight c.1 (sx_i (sx_R c 1) 5)).toInt64)), none, some (.int (nI 0)), none, none]) ⟨rfl, by rfl, by first | rfl | (rw [hn]), by rfl, rfl, trivial⟩ ?_
    exact lp_fc_fs _ _ n hn8 hs n 0 (by omega) ⟨rfl, rfl⟩
theorem fc_swap_eq (u : sx_M) {i j : Nat} (hi : i < 6) (hj : j < 6) : fc_swap u (nI i) (nI j) = sx_sI u 16 (fm_sw (sx_I u 16) i j) := by
  unfold fc_swap fm_sw
  rw [nI_clamp (by omega), nI_clamp (by omega)]
theorem ly_tuA {G : pj_G} {d : Nat} {c : sx_C} {m : sx_M} {o : Nat → Int64} {D : pj_H} {Q : pj_O → pj_H → Prop} (n : Nat) (hn : n ≤ 6) (j : Nat) (hj : j + 1 < n) (k1 : ¬ sx_I c.1 16 j ≤ sx_I c.1 16 (j + 1) → pj_J G mX1_turn (d + 1) 4 [some (.ref 2), some (.int (nI n)), some (.int (nI j + (-1))), none, none, none] [] (sx_mk c m o D) 0 0 Q) (k2 : sx_I c.1 16 j ≤ sx_I c.1 16 (j + 1) → pj_J G mX1_turn (d + 1) 37 [some (.ref 2), some (.int (nI n)), some (.int (nI j)), none, none, none] [] (sx_mk c m o D) 0 0 Q) : pj_J G mX1_turn (d + 1) 4 [some (.ref 2), some (.int (nI n)), some (.int (nI j)), none, none, none] [] (sx_mk c m o D) 0 0 Q := by
  refine pj_J.go (oX1_turn G) 2 rfl trivial ?_
  refine pj_J.neg (nI_nn (by omega)) ?_
  refine pj_J.go (oX1_turn G) 11 rfl ⟨by exact vp_in_lit (by omega) (by decide), by rw [nI_add1]; exact vp_in_lit (by omega) (by decide), trivial⟩ ?_
  refine pj_J.ite (fun hc22 => ?_) (fun hc22 => ?_)
  · skip
    refine pj_J.go (oX1_turn G) 2 rfl trivial ?_
    refine pj_J.pos (nI_nn2 (by omega)) ?_
    rw [nI_add1, nI_clamp (by omega), nI_clamp (by omega)] at hc22
    exact k2 hc22
  · skip
    refine pj_J.go (oX1_turn G) 2 rfl trivial ?_
    rw [nI_add1, nI_clamp (by omega), nI_clamp (by omega)] at hc22
    exact k1 hc22
theorem lz_tuA {G : pj_G} {d : Nat} {c : sx_C} {m : sx_M} {o : Nat → Int64} {D : pj_H} {Q : pj_O → pj_H → Prop} (n : Nat) (q : Q (.inl (some (.int 0))) (sx_mk c m o D)) : pj_J G mX1_turn (d + 1) 4 [some (.ref 2), some (.int (nI n)), some (.int (-1)), none, none, none] [] (sx_mk c m o D) 0 0 Q := by
  refine pj_J.go (oX1_turn G) 2 rfl trivial ?_
  refine pj_J.pos (by decide) ?_
  refine pj_J.go (oX1_turn G) 2 rfl trivial ?_
  refine pj_J.neg (by decide) ?_
  refine pj_J.go (oX1_turn G) 1 rfl trivial ?_
  exact pj_zret dX1_turn_36 rfl (by first | exact Or.inl rfl | exact Or.inr rfl | exact pj_b01 _ | assumption) q
theorem lzz_tu {G : pj_G} {d : Nat} {c : sx_C} {m : sx_M} {o : Nat → Int64} {D : pj_H} {Q : pj_O → pj_H → Prop} (n : Nat) (q : Q (.inl (some (.int 0))) (sx_mk c m o D)) : pj_J G mX1_turn (d + 1) 4 [some (.ref 2), some (.int (nI n)), some (.int (-2)), none, none, none] [] (sx_mk c m o D) 0 0 Q := by
  refine pj_J.go (oX1_turn G) 2 rfl trivial ?_
  refine pj_J.pos (by decide) ?_
  refine pj_J.go (oX1_turn G) 2 rfl trivial ?_
  refine pj_J.neg (by decide) ?_
  refine pj_J.go (oX1_turn G) 1 rfl trivial ?_
  exact pj_zret dX1_turn_36 rfl (by first | exact Or.inl rfl | exact Or.inr rfl | exact pj_b01 _ | assumption) q
theorem lp_tuA {G : pj_G} {d : Nat} {c : sx_C} {m : sx_M} {o : Nat → Int64} {D : pj_H} {Q : pj_O → pj_H → Prop} (n : Nat) (hn : n ≤ 6) (q : fm_stA (sx_I c.1 16) (n - 1) = none → Q (.inl (some (.int 0))) (sx_mk c m o D)) (kk : ∀ i, fm_stA (sx_I c.1 16) (n - 1) = some i → pj_J G mX1_turn (d + 1) 37 [some (.ref 2), some (.int (nI n)), some (.int (nI i)), none, none, none] [] (sx_mk c m o D) 0 0 Q) : ∀ j, j < n → fm_stA (sx_I c.1 16) (n - 1) = fm_stA (sx_I c.1 16) j → pj_J G mX1_turn (d + 1) 4 [some (.ref 2), some (.int (nI n)), some (.int (nI j + (-1))), none, none, none] [] (sx_mk c m o D) 0 0 Q := by
  intro j
  induction j with
  | zero =>
    intro hj he
    exact lz_tuA n (q (by rw [he]; rfl))
  | succ j ih =>
    intro hj he
    rw [nI_m1]
    refine ly_tuA n hn j hj (fun h => ih (by omega) (by rw [he]; show (if _ then _ else _) = _; rw [if_neg h])) (fun h => kk j (by rw [he]; unfold fm_stA; rw [if_pos h]))
theorem ly_tuB {G : pj_G} {d : Nat} {c : sx_C} {m : sx_M} {o : Nat → Int64} {D : pj_H} {Q : pj_O → pj_H → Prop} (n : Nat) (hn : n ≤ 6) (i j : Nat) (hi : i < n) (hj : j < n) (k1 : ¬ sx_I c.1 16 i ≤ sx_I c.1 16 j → pj_J G mX1_turn (d + 1) 41 [some (.ref 2), some (.int (nI n)), some (.int (nI i)), some (.int (nI j + (-1))), none, none] [] (sx_mk c m o D) 0 0 Q) (k2 : sx_I c.1 16 i ≤ sx_I c.1 16 j → pj_J G mX1_turn (d + 1) 62 [some (.ref 2), some (.int (nI n)), some (.int (nI i)), some (.int (nI j)), none, none] [] (sx_mk c m o D) 0 0 Q) : pj_J G mX1_turn (d + 1) 41 [some (.ref 2), some (.int (nI n)), some (.int (nI i)), some (.int (nI j)), none, none] [] (sx_mk c m o D) 0 0 Q := by
  refine pj_J.go (oX1_turn G) 9 rfl ⟨by exact vp_in_lit (by omega) (by decide), by exact vp_in_lit (by omega) (by decide), trivial⟩ ?_
  refine pj_J.ite (fun hc53 => ?_) (fun hc53 => ?_)
  · skip
    rw [nI_clamp (by omega), nI_clamp (by omega)] at hc53
    exact k2 hc53
  · skip
    refine pj_J.go (oX1_turn G) 2 rfl trivial ?_
    rw [nI_clamp (by omega), nI_clamp (by omega)] at hc53
    exact k1 hc53
theorem lp_tuB {G : pj_G} {d : Nat} {c : sx_C} {m : sx_M} {o : Nat → Int64} {D : pj_H} {Q : pj_O → pj_H → Prop} (n : Nat) (hn : n ≤ 6) (i : Nat) (hle : sx_I c.1 16 i ≤ sx_I c.1 16 (i + 1)) (kk : i < fm_stB (sx_I c.1 16) i (n - 1) → fm_stB (sx_I c.1 16) i (n - 1) < n → pj_J G mX1_turn (d + 1) 62 [some (.ref 2), some (.int (nI n)), some (.int (nI i)), some (.int (nI (fm_stB (sx_I c.1 16) i (n - 1)))), none, none] [] (sx_mk c m o D) 0 0 Q) : ∀ j, i < j → j < n → fm_stB (sx_I c.1 16) i (n - 1) = fm_stB (sx_I c.1 16) i j → pj_J G mX1_turn (d + 1) 41 [some (.ref 2), some (.int (nI n)), some (.int (nI i)), some (.int (nI j)), none, none] [] (sx_mk c m o D) 0 0 Q := by
  intro j
  induction j with
  | zero => intro h; omega
  | succ j ih =>
    intro hj hn2 he
    refine ly_tuB n hn i (j + 1) (by omega) hn2 (fun h => ?_) (fun h => ?_)
    · rw [nI_m1]
      by_cases e : i = j
      · subst e; exact absurd hle h
      · exact ih (by omega) (by omega) (by rw [he]; show (if _ then _ else _) = _; rw [if_neg h])
    · have e2 : fm_stB (sx_I c.1 16) i (n - 1) = j + 1 := by rw [he]; unfold fm_stB; rw [if_pos h]
      have := kk (by omega) (by omega)
      rw [e2] at this
      exact this
theorem lz_tuS {G : pj_G} {d : Nat} {c : sx_C} {m : sx_M} {o : Nat → Int64} {D : pj_H} {Q : pj_O → pj_H → Prop} (n : Nat) (hn : n ≤ 6) (i j : Nat) (hi : i < n) (hj : j < n) (kk : pj_J G mX1_turn (d + 1) 78 [some (.ref 2), some (.int (nI n)), some (.int (nI i)), some (.int (nI j)), some (.int (nI (i + 1))), some (.int (nI (n - 1)))] [] (sx_mk (sx_sM c (sx_sI c.1 16 (fm_sw (sx_I c.1 16) i j))) m o D) 0 0 Q) : pj_J G mX1_turn (d + 1) 62 [some (.ref 2), some (.int (nI n)), some (.int (nI i)), some (.int (nI j)), none, none] [] (sx_mk c m o D) 0 0 Q := by
  refine pj_J.go (oX1_turn G) 3 rfl trivial ?_
  refine pj_J.cal0 kX1_turn_65 (c_X1_swap (c := c) (nI i) (nI j) (vp_in_lit (by omega)) (vp_in_lit (by omega))) ⟨_, _, _, rfl, rfl⟩ pj_le0 pj_le0 pj_le0 ?_
  refine pj_J.go (oX1_turn G) 8 rfl trivial ?_
  rw [nI_add1, nI_s1 (by omega)]
  rw [fc_swap_eq _ (by omega) (by omega)]
  exact kk
theorem ly_tuC {G : pj_G} {d : Nat} {c : sx_C} {m : sx_M} {o : Nat → Int64} {D : pj_H} {Q : pj_O → pj_H → Prop} (n i j x y : Nat) (hxy : x < y) (hy : y < 6) (kk : pj_J G mX1_turn (d + 1) 78 [some (.ref 2), some (.int (nI n)), some (.int (nI i)), some (.int (nI j)), some (.int (nI x + 1)), some (.int (nI y + (-1)))] [] (sx_mk (sx_sM c (sx_sI c.1 16 (fm_sw (sx_I c.1 16) x y))) m o D) 0 0 Q) : pj_J G mX1_turn (d + 1) 78 [some (.ref 2), some (.int (nI n)), some (.int (nI i)), some (.int (nI j)), some (.int (nI x)), some (.int (nI y))] [] (sx_mk c m o D) 0 0 Q := by
  refine pj_J.go (oX1_turn G) 3 rfl trivial ?_
  refine pj_J.neg (nI_lt_lit hxy (by omega)) ?_
  refine pj_J.go (oX1_turn G) 3 rfl trivial ?_
  refine pj_J.cal0 kX1_turn_90 (c_X1_swap (c := c) (nI x) (nI y) (vp_in_lit (by omega)) (vp_in_lit (by omega))) ⟨_, _, _, rfl, rfl⟩ pj_le0 pj_le0 pj_le0 ?_
  refine pj_J.go (oX1_turn G) 3 rfl trivial ?_
  rw [fc_swap_eq _ (by omega) (by omega)]
  exact kk
theorem lz_tuC {G : pj_G} {d : Nat} {c : sx_C} {m : sx_M} {o : Nat → Int64} {D : pj_H} {Q : pj_O → pj_H → Prop} (n i j x y : Nat) (hxy : y ≤ x) (hx : x < 7) (q : Q (.inl (some (.int 1))) (sx_mk c m o D)) : pj_J G mX1_turn (d + 1) 78 [some (.ref 2), some (.int (nI n)), some (.int (nI i)), some (.int (nI j)), some (.int (nI x)), some (.int (nI y))] [] (sx_mk c m o D) 0 0 Q := by
  refine pj_J.go (oX1_turn G) 3 rfl trivial ?_
  refine pj_J.pos (nI_ge_lit hxy (by omega)) ?_
  refine pj_J.go (oX1_turn G) 1 rfl trivial ?_
  exact pj_zret dX1_turn_103 rfl (by first | exact Or.inl rfl | exact Or.inr rfl | exact pj_b01 _ | assumption) q
theorem lp_tuC {G : pj_G} {d : Nat} {m : sx_M} {o : Nat → Int64} {D : pj_H} {Q : pj_O → pj_H → Prop} (n i j : Nat) : ∀ (e x y : Nat) (c : sx_C), y ≤ x + e → x < 7 → y < 6 → Q (.inl (some (.int 1))) (sx_mk (sx_sM c (sx_sI c.1 16 (fm_stC e x y (sx_I c.1 16)))) m o D) → pj_J G mX1_turn (d + 1) 78 [some (.ref 2), some (.int (nI n)), some (.int (nI i)), some (.int (nI j)), some (.int (nI x)), some (.int (nI y))] [] (sx_mk c m o D) 0 0 Q := by
  intro e
  induction e with
  | zero =>
    intro x y c h1 hx hy q
    refine lz_tuC n i j x y (by omega) hx ?_
    have : sx_mk (sx_sM c (sx_sI c.1 16 (fm_stC 0 x y (sx_I c.1 16)))) m o D = sx_mk c m o D := rfl
    rw [this] at q
    exact q
  | succ e ih =>
    intro x y c h1 hx hy q
    unfold fm_stC at q
    split at q
    · rename_i h
      refine lz_tuC n i j x y h hx ?_
      have : sx_mk (sx_sM c (sx_sI c.1 16 (sx_I c.1 16))) m o D = sx_mk c m o D := rfl
      rw [this] at q
      exact q
    · rename_i h
      refine ly_tuC n i j x y (by omega) hy ?_
      obtain ⟨z, rfl⟩ : ∃ z, y = z + 1 := ⟨y - 1, by omega⟩
      rw [nI_m1, nI_add1]
      refine ih (x + 1) z _ (by omega) (by omega) (by omega) ?_
      exact q
theorem lx_tuB {G : pj_G} {d : Nat} {c : sx_C} {m : sx_M} {o : Nat → Int64} {D : pj_H} {Q : pj_O → pj_H → Prop} (n : Nat) (hn : n ≤ 6) (i : Nat) (hi : i < n) (kk : pj_J G mX1_turn (d + 1) 41 [some (.ref 2), some (.int (nI n)), some (.int (nI i)), some (.int (nI (n - 1))), none, none] [] (sx_mk c m o D) 0 0 Q) : pj_J G mX1_turn (d + 1) 37 [some (.ref 2), some (.int (nI n)), some (.int (nI i)), none, none, none] [] (sx_mk c m o D) 0 0 Q := by
  refine pj_J.go (oX1_turn G) 4 rfl trivial ?_
  rw [nI_s1 (by omega)]
  exact kk
def fc_turn (n : Nat) (u : sx_M) : Int32 × sx_M := match fm_turn n (sx_I u 16) with
  | none => (0, u)
  | some f => (1, sx_sI u 16 f)
theorem fc_turn_none {n : Nat} {u : sx_M} (h : fm_turn n (sx_I u 16) = none) : fc_turn n u = (0, u) := by unfold fc_turn; rw [h]
theorem fc_turn_some {n : Nat} {u : sx_M} {f : Nat → Int32} (h : fm_turn n (sx_I u 16) = some f) : fc_turn n u = (1, sx_sI u 16 f) := by unfold fc_turn; rw [h]
theorem c_X1_turn {G : pj_G} {d : Nat} {c : sx_C} {m : sx_M} {o : Nat → Int64} {D : pj_H} (n : Nat) (hn : n ≤ 6) : pj_Rt G mX1_turn (d + 1) [.ref 2, .int (nI n)] (sx_mk c m o D) 0 0 (some (.int (fc_turn n c.1).1)) (sx_mk (sx_sM c (fc_turn n c.1).2) m o D) := by
  refine pj_Cn.start ?_
  refine pj_J.go (oX1_turn G) 4 rfl trivial ?_
  by_cases h0 : n = 0
  · subst h0
    exact lzz_tu 0 ⟨rfl, rfl⟩
  · rw [nI_s2 (by omega)]
    refine lp_tuA n hn (fun h => ?_) (fun i h => ?_) (n - 1) (by omega) rfl
    · show _ = _ ∧ _ = _
      rw [fc_turn_none (by unfold fm_turn; rw [h])]
      exact ⟨rfl, rfl⟩
    · obtain ⟨hi, hle⟩ := fm_stA_ok _ _ _ h
      refine lx_tuB n hn i (by omega) (lp_tuB n hn i hle (fun h1 h2 => ?_) (n - 1) (by omega) (by omega) rfl)
      refine lz_tuS n hn i _ (by omega) h2 (lp_tuC n i _ n (i + 1) (n - 1) _ (by omega) (by omega) (by omega) ?_)
      show _ = _ ∧ _ = _
      rw [fc_turn_some (by unfold fm_turn; rw [h])]
      exact ⟨rfl, rfl⟩
def fc_bgA (k : Nat) (u : sx_M) : sx_M := sx_sL (sx_sI (sx_sI u 0 (upd (sx_I u 0) (nI k).toNatClampNeg (0 : Int32))) 1 (upd (sx_I u 1) (nI k).toNatClampNeg (1 : Int32))) 8 (vp_updL (sx_L u 8) (nI k).toNatClampNeg (0 : Int64))
theorem ly_fc_bgA {G : pj_G} {d : Nat} {c : sx_C} {m : sx_M} {o : Nat → Int64} {D : pj_H} {Q : pj_O → pj_H → Prop} (k : Nat) (hk : k < 8) (kk : pj_J G mX1_begin (d) 2 [some (.ref 2), some (.int (nI k + 1))] [] (sx_mk (sx_sM c (fc_bgA k c.1)) m o D) 0 0 Q) : pj_J G mX1_begin (d) 2 [some (.ref 2), some (.int (nI k))] [] (sx_mk c m o D) 0 0 Q := by
  unfold fc_bgA at kk
  refine pj_J.go (oX1_begin G) 3 rfl trivial ?_
  refine pj_J.neg (nI_lt_lit hk (by decide)) ?_
  refine pj_J.go (oX1_begin G) 17 rfl ⟨by exact vp_in_lit (by omega), by exact vp_in_lit (by omega), by exact vp_in_lit (by omega), trivial⟩ ?_
  exact pj_J.drp kk ⟨rfl, rfl, trivial⟩
def fc_bgB (k : Nat) (u : sx_M) : sx_M := sx_sI (sx_sI u 4 (upd (upd (sx_I u 4) ((nI k) * (8 : Int32)).toNatClampNeg (1 : Int32)) (((nI k) * (8 : Int32)) + (1 : Int32)).toNatClampNeg (1 : Int32))) 5 (upd (sx_I u 5) (nI k).toNatClampNeg (2 : Int32))
theorem ly_fc_bgB {G : pj_G} {d : Nat} {c : sx_C} {m : sx_M} {o : Nat → Int64} {D : pj_H} {Q : pj_O → pj_H → Prop} (k : Nat) (hk : k < 4) (kk : pj_J G mX1_begin (d) 37 [some (.ref 2), some (.int (nI k + 1))] [] (sx_mk (sx_sM c (fc_bgB k c.1)) m o D) 0 0 Q) : pj_J G mX1_begin (d) 37 [some (.ref 2), some (.int (nI k))] [] (sx_mk c m o D) 0 0 Q := by
  unfold fc_bgB at kk
  refine pj_J.go (oX1_begin G) 3 rfl trivial ?_
  refine pj_J.neg (nI_lt_lit hk (by decide)) ?_
  refine pj_J.go (oX1_begin G) 23 rfl ⟨by exact (by rw [show (8 : Int32) = nI 8 from rfl, pk_mul]; exact vp_in_nI (by omega) (by decide)), by exact (by rw [show (8 : Int32) = nI 8 from rfl, pk_mul, nI_add1]; exact vp_in_nI (by omega) (by decide)), by exact vp_in_lit (by omega), trivial⟩ ?_
  exact pj_J.drp kk ⟨rfl, rfl, trivial⟩
theorem lz_fc_bgA {G : pj_G} {d : Nat} {c : sx_C} {m : sx_M} {o : Nat → Int64} {D : pj_H} {Q : pj_O → pj_H → Prop}  (kk : pj_J G mX1_begin (d) 37 [some (.ref 2), some (.int (nI 0))] [] (sx_mk c m o D) 0 0 Q) : pj_J G mX1_begin (d) 2 [some (.ref 2), some (.int (nI 8))] [] (sx_mk c m o D) 0 0 Q := by
  refine pj_J.go (oX1_begin G) 3 rfl trivial ?_
  refine pj_J.pos (nI_ge_lit (Nat.le_refl _) (by decide)) ?_
  refine pj_J.go (oX1_begin G) 2 rfl trivial ?_
  exact pj_J.drp kk ⟨rfl, rfl, trivial⟩
def fc_bgS (u : sx_M) : sx_M := sx_si (sx_si (sx_si (sx_si u 3 0) 7 0) 9 0) 15 (-2)
def fc_bgU (u : sx_M) : sx_M := sx_si (fc_bgS (it_up fc_bgB 4 0 (it_up fc_bgA 8 0 u))) 24 0
def fc_begin (c : sx_C) : sx_C := sx_sR (sx_sM c (fc_bgU c.1)) 0 (fr_bare (fr_begin (sx_R c 0)))
theorem lz_fc_bgB {G : pj_G} {d : Nat} {c : sx_C} {m : sx_M} {o : Nat → Int64} {D : pj_H} {Q : pj_O → pj_H → Prop} (q : Q (.inl (some (.int 0))) (sx_mk (sx_sR (sx_sM c (sx_si (fc_bgS c.1) 24 0)) 0 (fr_bare (fr_begin (sx_R c 0)))) m o D)) : pj_J G mX1_begin (d + 1) 37 [some (.ref 2), some (.int (nI 4))] [] (sx_mk c m o D) 0 0 Q := by
  refine pj_J.go (oX1_begin G) 3 rfl trivial ?_
  refine pj_J.pos (nI_ge_lit (Nat.le_refl _) (by decide)) ?_
  refine pj_J.go (oX1_begin G) 14 rfl trivial ?_
  refine pj_J.cal0 kX1_begin_102 (c_X2_begin_0 (c := (sx_sM c (sx_si (sx_si (sx_si (sx_si c.1 3 (0 : Int32)) 7 (0 : Int32)) 9 (0 : Int32)) 15 (-2 : Int32))))) ⟨_, _, _, rfl, rfl⟩ pj_le0 pj_le0 pj_le0 ?_
  refine pj_J.go (oX1_begin G) 2 rfl trivial ?_
  refine pj_J.cal0 kX1_begin_109 (c_X2_bare_0 (c := (sx_sM (sx_sR c 0 (fr_begin (sx_R c 0))) (sx_si (sx_si (sx_si (sx_si c.1 3 (0 : Int32)) 7 (0 : Int32)) 9 (0 : Int32)) 15 (-2 : Int32))))) ⟨_, _, _, rfl, rfl⟩ pj_le0 pj_le0 pj_le0 ?_
  refine pj_J.go (oX1_begin G) 4 rfl trivial ?_
  exact pj_iret dX1_begin_118 rfl q
theorem fc_bgX {c : sx_C} {m : sx_M} {o : Nat → Int64} {D : pj_H} (X : sx_M) : sx_mk (sx_sR (sx_sM (sx_sM c X) (sx_si (fc_bgS (sx_sM c X).1) 24 0)) 0 (fr_bare (fr_begin (sx_R (sx_sM c X) 0)))) m o D = sx_mk (sx_sR (sx_sM c (sx_si (fc_bgS X) 24 0)) 0 (fr_bare (fr_begin (sx_R c 0)))) m o D := rfl
theorem c_X1_begin {G : pj_G} {d : Nat} {c : sx_C} {m : sx_M} {o : Nat → Int64} {D : pj_H} : pj_Rt G mX1_begin (d + 1) [.ref 2] (sx_mk c m o D) 0 0 (some (.int 0)) (sx_mk (fc_begin c) m o D) := by
  refine pj_Cn.start ?_
  refine pj_J.go (oX1_begin G) 2 rfl trivial ?_
  refine pj_for (fun k s => pj_J G mX1_begin (d + 1) 2 [some (.ref 2), some (.int (nI k))] [] (sx_mk (sx_sM c s) m o D) 0 0 _) fc_bgA (fun _ _ => True) 8 (fun k s hk hi => ⟨hi, fun kk => ly_fc_bgA (c := sx_sM c s) k hk (by rw [nI_add1]; exact kk)⟩) 8 0 c.1 (by simp) trivial (fun hi => lz_fc_bgA (c := sx_sM c (it_up fc_bgA 8 0 c.1)) ?_)
  exact pj_for (fun k s => pj_J G mX1_begin (d + 1) 37 [some (.ref 2), some (.int (nI k))] [] (sx_mk (sx_sM c s) m o D) 0 0 _) fc_bgB (fun _ _ => True) 4 (fun k s hk hi => ⟨hi, fun kk => ly_fc_bgB (c := sx_sM c s) k hk (by rw [nI_add1]; exact kk)⟩) 4 0 (it_up fc_bgA 8 0 c.1) (by simp) trivial (fun hi => lz_fc_bgB (c := sx_sM c (it_up fc_bgB 4 0 (it_up fc_bgA 8 0 c.1))) ⟨rfl, by unfold fc_begin fc_bgU; exact fc_bgX _⟩)
