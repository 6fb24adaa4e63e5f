/-! PennyJudgeModel: steps order (by tools/gen_n4.py) -/
set_option maxRecDepth 100000
/-- the next order, on the places alone (both classes) -/
def fm_stA (f : Nat → Int32) : Nat → Option Nat
  | 0 => none
  | j + 1 => if f j ≤ f (j + 1) then some j else fm_stA f j
def fm_stB (f : Nat → Int32) (i : Nat) : Nat → Nat
  | 0 => 0
  | j + 1 => if f i ≤ f (j + 1) then j + 1 else fm_stB f i j
def fm_sw (f : Nat → Int32) (i j : Nat) : Nat → Int32 := upd (upd f i (f j)) j (f i)
def fm_stC : Nat → Nat → Nat → (Nat → Int32) → Nat → Int32
  | 0, _, _, f => f
  | e + 1, x, y, f => if y ≤ x then f else fm_stC e (x + 1) (y - 1) (fm_sw f x y)
def fm_turn (n : Nat) (f : Nat → Int32) : Option (Nat → Int32) := match fm_stA f (n - 1) with
  | none => none
  | some i => some (fm_stC n (i + 1) (n - 1) (fm_sw f i (fm_stB f i (n - 1))))
theorem fm_stA_ok (f : Nat → Int32) : ∀ (j i : Nat), fm_stA f j = some i → i < j ∧ f i ≤ f (i + 1) := by
  intro j
  induction j with
  | zero => intro i h; cases h
  | succ j ih =>
    intro i h
    unfold fm_stA at h
    split at h
    · rename_i hc
      cases h
      exact ⟨by omega, hc⟩
    · have := ih i h
      exact ⟨by omega, this.2⟩
theorem nI_nn {k : Nat} (hk : k < 2 ^ 31) : ¬ nI k < 0 := by
  rw [Int32.lt_iff_toInt_lt, nI_toInt (by omega)]
  have : (0 : Int32).toInt = 0 := rfl
  omega
theorem nI_nn2 {k : Nat} (hk : k < 2 ^ 31) : (0 : Int32) ≤ nI k := by
  rw [Int32.le_iff_toInt_le, nI_toInt (by omega)]
  have : (0 : Int32).toInt = 0 := rfl
  omega
theorem nI_m1 (k : Nat) : nI (k + 1) + (-1) = nI k := by
  rw [← nI_add1, Int32.add_assoc]
  rw [show (1 : Int32) + -1 = 0 from by decide, Int32.add_zero]
theorem nI_s2 {n : Nat} (h : 1 ≤ n) : nI n - 2 = nI (n - 1) + (-1) := by
  obtain ⟨k, rfl⟩ : ∃ k, n = k + 1 := ⟨n - 1, by omega⟩
  rw [show k + 1 - 1 = k from rfl, ← nI_add1, Int32.sub_eq_add_neg, Int32.add_assoc]
  rfl
theorem nI_s1 {n : Nat} (h : 1 ≤ n) : nI n - 1 = nI (n - 1) := by
  obtain ⟨k, rfl⟩ : ∃ k, n = k + 1 := ⟨n - 1, by omega⟩
  rw [show k + 1 - 1 = k from rfl, Int32.sub_eq_add_neg]
  exact nI_m1 k
theorem ly_stA {G : pj_G} {d : Nat} {c : sx_C} {m : sx_M} {o : Nat → Int64} {D : pj_H} {Q : pj_O → pj_H → Prop} (n : Nat) (hn : n ≤ 6) (en : sx_i m 3 = nI n) (j : Nat) (hj : j + 1 < n) (k1 : ¬ sx_I m 46 j ≤ sx_I m 46 (j + 1) → pj_J G mX4_steps d 7 [some (.ref 59), some (.int (nI j + (-1))), none, none, none, none] [] (sx_mk c m o D) 0 0 Q) (k2 : sx_I m 46 j ≤ sx_I m 46 (j + 1) → pj_J G mX4_steps d 40 [some (.ref 59), some (.int (nI j)), none, none, none, none] [] (sx_mk c m o D) 0 0 Q) : pj_J G mX4_steps d 7 [some (.ref 59), some (.int (nI j)), none, none, none, none] [] (sx_mk c m o D) 0 0 Q := by
  refine pj_J.go (oX4_steps G) 2 rfl trivial ?_
  refine pj_J.neg (nI_nn (by omega)) ?_
  refine pj_J.go (oX4_steps G) 11 rfl ⟨by exact vp_in_lit (by omega) (by decide), by rw [nI_add1]; exact vp_in_lit (by omega) (by decide), trivial⟩ ?_
  refine pj_J.ite (fun hc25 => ?_) (fun hc25 => ?_)
  · skip
    refine pj_J.go (oX4_steps G) 2 rfl trivial ?_
    refine pj_J.pos (nI_nn2 (by omega)) ?_
    rw [nI_add1, nI_clamp (by omega), nI_clamp (by omega)] at hc25
    exact k2 hc25
  · skip
    refine pj_J.go (oX4_steps G) 2 rfl trivial ?_
    rw [nI_add1, nI_clamp (by omega), nI_clamp (by omega)] at hc25
    exact k1 hc25
theorem lz_stA {G : pj_G} {d : Nat} {c : sx_C} {m : sx_M} {o : Nat → Int64} {D : pj_H} {Q : pj_O → pj_H → Prop} (q : Q (.inl (some (.int 0))) (sx_mk c m o D)) : pj_J G mX4_steps d 7 [some (.ref 59), some (.int (-1)), none, none, none, none] [] (sx_mk c m o D) 0 0 Q := by
  refine pj_J.go (oX4_steps G) 2 rfl trivial ?_
  refine pj_J.pos (by decide) ?_
  refine pj_J.go (oX4_steps G) 2 rfl trivial ?_
  refine pj_J.neg (by decide) ?_
  refine pj_J.go (oX4_steps G) 1 rfl trivial ?_
  exact pj_zret dX4_steps_39 rfl (by first | exact Or.inl rfl | exact Or.inr rfl | exact pj_b01 _ | assumption) q
theorem lp_stA {G : pj_G} {d : Nat} {c : sx_C} {m : sx_M} {o : Nat → Int64} {D : pj_H} {Q : pj_O → pj_H → Prop} (n : Nat) (hn : n ≤ 6) (en : sx_i m 3 = nI n) (q : fm_stA (sx_I m 46) (n - 1) = none → Q (.inl (some (.int 0))) (sx_mk c m o D)) (kk : ∀ i, fm_stA (sx_I m 46) (n - 1) = some i → pj_J G mX4_steps d 40 [some (.ref 59), some (.int (nI i)), none, none, none, none] [] (sx_mk c m o D) 0 0 Q) : ∀ j, j < n → fm_stA (sx_I m 46) (n - 1) = fm_stA (sx_I m 46) j → pj_J G mX4_steps d 7 [some (.ref 59), some (.int (nI j + (-1))), none, none, none, none] [] (sx_mk c m o D) 0 0 Q := by
  intro j
  induction j with
  | zero =>
    intro hj he
    exact lz_stA (q (by rw [he]; rfl))
  | succ j ih =>
    intro hj he
    rw [nI_m1]
    refine ly_stA n hn en j hj (fun h => ih (by omega) (by rw [he]; show (if _ then _ else _) = _; rw [if_neg h])) (fun h => kk j (by rw [he]; unfold fm_stA; rw [if_pos h]))
theorem ly_stB {G : pj_G} {d : Nat} {c : sx_C} {m : sx_M} {o : Nat → Int64} {D : pj_H} {Q : pj_O → pj_H → Prop} (n : Nat) (hn : n ≤ 6) (en : sx_i m 3 = nI n) (i j : Nat) (hi : i < n) (hj : j < n) (k1 : ¬ sx_I m 46 i ≤ sx_I m 46 j → pj_J G mX4_steps d 47 [some (.ref 59), some (.int (nI i)), some (.int (nI j + (-1))), none, none, none] [] (sx_mk c m o D) 0 0 Q) (k2 : sx_I m 46 i ≤ sx_I m 46 j → pj_J G mX4_steps d 68 [some (.ref 59), some (.int (nI i)), some (.int (nI j)), none, none, none] [] (sx_mk c m o D) 0 0 Q) : pj_J G mX4_steps d 47 [some (.ref 59), some (.int (nI i)), some (.int (nI j)), none, none, none] [] (sx_mk c m o D) 0 0 Q := by
  refine pj_J.go (oX4_steps G) 9 rfl ⟨by exact vp_in_lit (by omega) (by decide), by exact vp_in_lit (by omega) (by decide), trivial⟩ ?_
  refine pj_J.ite (fun hc59 => ?_) (fun hc59 => ?_)
  · skip
    rw [nI_clamp (by omega), nI_clamp (by omega)] at hc59
    exact k2 hc59
  · skip
    refine pj_J.go (oX4_steps G) 2 rfl trivial ?_
    rw [nI_clamp (by omega), nI_clamp (by omega)] at hc59
    exact k1 hc59
theorem lp_stB {G : pj_G} {d : Nat} {c : sx_C} {m : sx_M} {o : Nat → Int64} {D : pj_H} {Q : pj_O → pj_H → Prop} (n : Nat) (hn : n ≤ 6) (en : sx_i m 3 = nI n) (i : Nat) (hle : sx_I m 46 i ≤ sx_I m 46 (i + 1)) (kk : i < fm_stB (sx_I m 46) i (n - 1) → fm_stB (sx_I m 46) i (n - 1) < n → pj_J G mX4_steps d 68 [some (.ref 59), some (.int (nI i)), some (.int (nI (fm_stB (sx_I m 46) i (n - 1)))), none, none, none] [] (sx_mk c m o D) 0 0 Q) : ∀ j, i < j → j < n → fm_stB (sx_I m 46) i (n - 1) = fm_stB (sx_I m 46) i j → pj_J G mX4_steps d 47 [some (.ref 59), some (.int (nI i)), some (.int (nI j)), none, none, none] [] (sx_mk c m o D) 0 0 Q := by
  intro j
  induction j with
  | zero => intro h; omega
  | succ j ih =>
    intro hj hn2 he
    refine ly_stB n hn en i (j + 1) (by omega) hn2 (fun h => ?_) (fun h => ?_)
    · rw [nI_m1]
      by_cases e : i = j
      · subst e; exact absurd hle h
      · exact ih (by omega) (by omega) (by rw [he]; show (if _ then _ else _) = _; rw [if_neg h])
    · have e2 : fm_stB (sx_I m 46) i (n - 1) = j + 1 := by rw [he]; unfold fm_stB; rw [if_pos h]
      have := kk (by omega) (by omega)
      rw [e2] at this
      exact this
theorem lz_stS {G : pj_G} {d : Nat} {c : sx_C} {m : sx_M} {o : Nat → Int64} {D : pj_H} {Q : pj_O → pj_H → Prop} (n : Nat) (hn : n ≤ 6) (en : sx_i m 3 = nI n) (i j : Nat) (hi : i < n) (hj : j < n) (kk : pj_J G mX4_steps d 107 [some (.ref 59), some (.int (nI i)), some (.int (nI j)), none, some (.int (nI (i + 1))), some (.int (nI (n - 1)))] [] (sx_mk c (sx_sI m 46 (fm_sw (sx_I m 46) i j)) o D) 0 0 Q) : pj_J G mX4_steps d 68 [some (.ref 59), some (.int (nI i)), some (.int (nI j)), none, none, none] [] (sx_mk c m o D) 0 0 Q := by
  refine pj_J.go (oX4_steps G) 27 rfl ⟨by exact vp_in_lit (by omega) (by decide), by exact vp_in_lit (by omega) (by decide), by exact vp_in_lit (by omega) (by decide), by exact vp_in_lit (by omega) (by decide), trivial⟩ ?_
  have e1 : (nI i).toNatClampNeg = i := nI_clamp (by omega)
  have e2 : (nI j).toNatClampNeg = j := nI_clamp (by omega)
  have e3 : sx_i m 3 - 1 = nI (n - 1) := by rw [en, nI_s1 (by omega)]
  rw [← e3, ← nI_add1] at kk
  unfold fm_sw at kk
  refine pj_J.drop (L' := [some (.ref 59), some (.int (nI i)), some (.int (nI j)), none, some (.int (nI i + 1)), some (.int (sx_i m 3 - 1))]) ⟨rfl, rfl, rfl, rfl, rfl, trivial⟩ ?_
  refine pj_J.heq (h' := sx_mk c (sx_sI m 46 (upd (upd (sx_I m 46) (nI i).toNatClampNeg (sx_I m 46 (nI j).toNatClampNeg)) (nI j).toNatClampNeg (sx_I m 46 (nI i).toNatClampNeg))) o D) rfl ?_
  rw [e1, e2]
  exact kk
theorem ly_stC {G : pj_G} {d : Nat} {c : sx_C} {m : sx_M} {o : Nat → Int64} {D : pj_H} {Q : pj_O → pj_H → Prop} (i j x y : Nat) (hxy : x < y) (hy : y < 6) (kk : pj_J G mX4_steps d 107 [some (.ref 59), some (.int (nI i)), some (.int (nI j)), none, some (.int (nI x + 1)), some (.int (nI y + (-1)))] [] (sx_mk c (sx_sI m 46 (fm_sw (sx_I m 46) x y)) o D) 0 0 Q) : pj_J G mX4_steps d 107 [some (.ref 59), some (.int (nI i)), some (.int (nI j)), none, some (.int (nI x)), some (.int (nI y))] [] (sx_mk c m o D) 0 0 Q := by
  refine pj_J.go (oX4_steps G) 3 rfl trivial ?_
  refine pj_J.neg (nI_lt_lit hxy (by omega)) ?_
  refine pj_J.go (oX4_steps G) 21 rfl ⟨by exact vp_in_lit (by omega) (by decide), by exact vp_in_lit (by omega) (by decide), by exact vp_in_lit (by omega) (by decide), by exact vp_in_lit (by omega) (by decide), trivial⟩ ?_
  have e1 : (nI x).toNatClampNeg = x := nI_clamp (by omega)
  have e2 : (nI y).toNatClampNeg = y := nI_clamp (by omega)
  unfold fm_sw at kk
  refine pj_J.drop (L' := [some (.ref 59), some (.int (nI i)), some (.int (nI j)), none, some (.int (nI x + 1)), some (.int (nI y + (-1)))]) ⟨rfl, rfl, rfl, rfl, rfl, trivial⟩ ?_
  refine pj_J.heq (h' := sx_mk c (sx_sI m 46 (upd (upd (sx_I m 46) (nI x).toNatClampNeg (sx_I m 46 (nI y).toNatClampNeg)) (nI y).toNatClampNeg (sx_I m 46 (nI x).toNatClampNeg))) o D) rfl ?_
  rw [e1, e2]
  exact kk
theorem lz_stC {G : pj_G} {d : Nat} {c : sx_C} {m : sx_M} {o : Nat → Int64} {D : pj_H} {Q : pj_O → pj_H → Prop} (i j x y : Nat) (hxy : y ≤ x) (hx : x < 7) (q : Q (.inl (some (.int 1))) (sx_mk c m o D)) : pj_J G mX4_steps (d) 107 [some (.ref 59), some (.int (nI i)), some (.int (nI j)), none, some (.int (nI x)), some (.int (nI y))] [] (sx_mk c m o D) 0 0 Q := by
  refine pj_J.go (oX4_steps G) 3 rfl trivial ?_
  refine pj_J.pos (nI_ge_lit hxy (by omega)) ?_
  refine pj_J.go (oX4_steps G) 1 rfl trivial ?_
  exact pj_zret dX4_steps_154 rfl (by first | exact Or.inl rfl | exact Or.inr rfl | exact pj_b01 _ | assumption) q
theorem lp_stC {G : pj_G} {d : Nat} {c : sx_C} {o : Nat → Int64} {D : pj_H} {Q : pj_O → pj_H → Prop} (i j : Nat) : ∀ (e x y : Nat) (m : sx_M), y ≤ x + e → x < 7 → y < 6 → Q (.inl (some (.int 1))) (sx_mk c (sx_sI m 46 (fm_stC e x y (sx_I m 46))) o D) → pj_J G mX4_steps d 107 [some (.ref 59), some (.int (nI i)), some (.int (nI j)), none, some (.int (nI x)), some (.int (nI y))] [] (sx_mk c m o D) 0 0 Q := by
  intro e
  induction e with
  | zero =>
    intro x y m h1 hx hy q
    refine lz_stC i j x y (by omega) hx ?_
    have : sx_mk c (sx_sI m 46 (fm_stC 0 x y (sx_I m 46))) o D = sx_mk c m o D := rfl
    rw [this] at q
    exact q
  | succ e ih =>
    intro x y m h1 hx hy q
    unfold fm_stC at q
    split at q
    · rename_i h
      refine lz_stC i j x y h hx ?_
      have : sx_mk c (sx_sI m 46 (sx_I m 46)) o D = sx_mk c m o D := rfl
      rw [this] at q
      exact q
    · rename_i h
      refine ly_stC i j x y (by omega) hy ?_
      obtain ⟨z, rfl⟩ : ∃ z, y = z + 1 := ⟨y - 1, by omega⟩
      rw [nI_m1, nI_add1]
      refine ih (x + 1) z _ (by omega) (by omega) (by omega) ?_
      exact q
theorem lzz_st {G : pj_G} {d : Nat} {c : sx_C} {m : sx_M} {o : Nat → Int64} {D : pj_H} {Q : pj_O → pj_H → Prop} (q : Q (.inl (some (.int 0))) (sx_mk c m o D)) : pj_J G mX4_steps d 7 [some (.ref 59), some (.int (-2)), none, none, none, none] [] (sx_mk c m o D) 0 0 Q := by
  refine pj_J.go (oX4_steps G) 2 rfl trivial ?_
  refine pj_J.pos (by decide) ?_
  refine pj_J.go (oX4_steps G) 2 rfl trivial ?_
  refine pj_J.neg (by decide) ?_
  refine pj_J.go (oX4_steps G) 1 rfl trivial ?_
  exact pj_zret dX4_steps_39 rfl (by first | exact Or.inl rfl | exact Or.inr rfl | exact pj_b01 _ | assumption) q
theorem lx_stB {G : pj_G} {d : Nat} {c : sx_C} {m : sx_M} {o : Nat → Int64} {D : pj_H} {Q : pj_O → pj_H → Prop} (n : Nat) (hn : n ≤ 6) (en : sx_i m 3 = nI n) (i : Nat) (hi : i < n) (kk : pj_J G mX4_steps d 47 [some (.ref 59), some (.int (nI i)), some (.int (nI (n - 1))), none, none, none] [] (sx_mk c m o D) 0 0 Q) : pj_J G mX4_steps d 40 [some (.ref 59), some (.int (nI i)), none, none, none, none] [] (sx_mk c m o D) 0 0 Q := by
  refine pj_J.go (oX4_steps G) 5 rfl trivial ?_
  rw [en, nI_s1 (by omega)]
  exact kk
/-- steps: the next order, if there is one -/
def fm_stR (n : Nat) (m : sx_M) : Int32 × sx_M := match fm_turn n (sx_I m 46) with
  | none => (0, m)
  | some f => (1, sx_sI m 46 f)
theorem c_X4_steps {G : pj_G} {d : Nat} {c : sx_C} {m : sx_M} {o : Nat → Int64} {D : pj_H} (n : Nat) (hn : n ≤ 6) (en : sx_i m 3 = nI n) : pj_Rt G mX4_steps d [.ref 59] (sx_mk c m o D) 0 0 (some (.int (fm_stR n m).1)) (sx_mk c (fm_stR n m).2 o D) := by
  refine pj_Cn.start ?_
  refine pj_J.go (oX4_steps G) 5 rfl trivial ?_
  rw [en]
  by_cases h0 : n = 0
  · subst h0
    exact lzz_st (m := m) ⟨rfl, rfl⟩
  · rw [nI_s2 (by omega)]
    refine lp_stA n hn en (fun h => ?_) (fun i h => ?_) (n - 1) (by omega) rfl
    · show _ = _ ∧ _ = _
      unfold fm_stR fm_turn
      rw [h]
      exact ⟨rfl, rfl⟩
    · obtain ⟨hi, hle⟩ := fm_stA_ok _ _ _ h
      refine lx_stB n hn en i (by omega) (lp_stB n hn en i hle (fun h1 h2 => ?_) (n - 1) (by omega) (by omega) rfl)
      refine lz_stS n hn en i _ (by omega) h2 (lp_stC i _ n (i + 1) (n - 1) _ (by omega) (by omega) (by omega) ?_)
      show _ = _ ∧ _ = _
      unfold fm_stR fm_turn
      rw [h]
      exact ⟨rfl, rfl⟩
def fm_orP (k : Nat) (m : sx_M) : sx_M := sx_sI m 46 (upd (sx_I m 46) (nI k).toNatClampNeg (nI k))
theorem ly_fm_orP {G : pj_G} {d : Nat} {c : sx_C} {m : sx_M} {o : Nat → Int64} {D : pj_H} {Q : pj_O → pj_H → Prop}  (p : Int32) (n : Nat) (hn : n ≤ 6) (en : sx_i m 3 = nI n) (k : Nat) (hk : k < n) (kk : pj_J G mX4_order (d) 24 [some (.ref 59), some (.int p), some (.int (nI k + 1)), none, none, none] [] (sx_mk c (fm_orP k m) o D) 0 0 Q) : pj_J G mX4_order (d) 24 [some (.ref 59), some (.int p), some (.int (nI k)), none, none, none] [] (sx_mk c m o D) 0 0 Q := by
  unfold fm_orP at kk
  refine pj_J.go (oX4_order G) 4 rfl trivial ?_
  refine pj_J.neg (by rw [en]; exact nI_lt_lit hk (by omega)) ?_
  refine pj_J.go (oX4_order G) 7 rfl ⟨by exact vp_in_lit (by omega) (by decide), trivial⟩ ?_
  exact pj_J.drp kk ⟨rfl, rfl, rfl, trivial⟩
def fm_orF (k : Nat) (m : sx_M) : sx_M := sx_sL m 47 (vp_updL (sx_L m 47) (nI k).toNatClampNeg (sx_L m 22 ((12 : Int32) + (nI k)).toNatClampNeg))
theorem ly_fm_orF {G : pj_G} {d : Nat} {c : sx_C} {m : sx_M} {o : Nat → Int64} {D : pj_H} {Q : pj_O → pj_H → Prop}  (p f : Int32) (n : Nat) (hn : n ≤ 6) (en : sx_i m 3 = nI n) (k : Nat) (hk : k < n) (kk : pj_J G mX4_order (d) 57 [some (.ref 59), some (.int p), some (.int f), some (.int (nI k + 1)), none, none] [] (sx_mk c (fm_orF k m) o D) 0 0 Q) : pj_J G mX4_order (d) 57 [some (.ref 59), some (.int p), some (.int f), some (.int (nI k)), none, none] [] (sx_mk c m o D) 0 0 Q := by
  unfold fm_orF at kk
  refine pj_J.go (oX4_order G) 4 rfl trivial ?_
  refine pj_J.neg (by rw [en]; exact nI_lt_lit hk (by omega)) ?_
  refine pj_J.go (oX4_order G) 12 rfl ⟨by exact (by rw [show (12 : Int32) = nI 12 from rfl, nI_add]; exact vp_in_nI (by omega) (by decide)), by exact vp_in_lit (by omega) (by decide), trivial⟩ ?_
  exact pj_J.drp kk ⟨rfl, rfl, rfl, rfl, trivial⟩
def fm_orM (m : sx_M) (k : Nat) (mt : Int32) : Int32 := if mt = (0 : Int32) then (if (sx_L m 22 ((12 : Int32) + (nI k)).toNatClampNeg) = (sx_L m 47 (sx_I m 46 (nI k).toNatClampNeg).toNatClampNeg) then (0 : Int32) else (1 : Int32)) else (1 : Int32)
theorem ly_fm_orM {G : pj_G} {d : Nat} {c : sx_C} {m : sx_M} {o : Nat → Int64} {D : pj_H} {Q : pj_O → pj_H → Prop}  (p f z : Int32) (n : Nat) (hn : n ≤ 6) (en : sx_i m 3 = nI n) (hpl : ∀ k, k < n → vp_in (sx_I m 46 k) 12) (k : Nat) (mt : Int32) (hk : k < n) (kk : pj_J G mX4_order (d) 125 [some (.ref 59), some (.int p), some (.int f), some (.int z), some (.int (fm_orM m k mt)), some (.int (nI k + 1))] [] (sx_mk c m o D) 0 0 Q) : pj_J G mX4_order (d) 125 [some (.ref 59), some (.int p), some (.int f), some (.int z), some (.int mt), some (.int (nI k))] [] (sx_mk c m o D) 0 0 Q := by
  unfold fm_orM at kk
  refine pj_J.go (oX4_order G) 4 rfl trivial ?_
  refine pj_J.neg (by rw [en]; exact nI_lt_lit hk (by omega)) ?_
  refine pj_J.go (oX4_order G) 2 rfl trivial ?_
  refine pj_J.ite (fun hc136 => ?_) (fun hc136 => ?_)
  · skip
    refine pj_J.go (oX4_order G) 15 rfl ⟨by exact (by rw [show (12 : Int32) = nI 12 from rfl, nI_add]; exact vp_in_nI (by omega) (by decide)), by exact vp_in_lit (by omega) (by decide), by exact (by rw [nI_clamp (by omega)]; exact hpl k hk), trivial⟩ ?_
    refine pj_J.ite (fun hc162 => ?_) (fun hc162 => ?_)
    · simp only [pj_lc_eq] at hc162
      refine pj_J.go (oX4_order G) 4 rfl trivial ?_
      rw [if_pos (show mt = (0 : Int32) from hc136), if_pos (show (sx_L m 22 ((12 : Int32) + (nI k)).toNatClampNeg) = (sx_L m 47 (sx_I m 46 (nI k).toNatClampNeg).toNatClampNeg) from hc162)] at kk
      exact pj_J.drp kk ⟨rfl, rfl, rfl, rfl, rfl, rfl, trivial⟩
    · simp only [pj_lc_eq] at hc162
      refine pj_J.go (oX4_order G) 5 rfl trivial ?_
      rw [if_pos (show mt = (0 : Int32) from hc136), if_neg (show ¬ ((sx_L m 22 ((12 : Int32) + (nI k)).toNatClampNeg) = (sx_L m 47 (sx_I m 46 (nI k).toNatClampNeg).toNatClampNeg)) from hc162)] at kk
      exact pj_J.drp kk ⟨rfl, rfl, rfl, rfl, rfl, rfl, trivial⟩
  · skip
    refine pj_J.go (oX4_order G) 5 rfl trivial ?_
    rw [if_neg (show ¬ (mt = (0 : Int32)) from hc136)] at kk
    exact pj_J.drp kk ⟨rfl, rfl, rfl, rfl, rfl, rfl, trivial⟩
theorem lz_orP {G : pj_G} {d : Nat} {c : sx_C} {m : sx_M} {o : Nat → Int64} {D : pj_H} {Q : pj_O → pj_H → Prop} (p : Int32) (n : Nat) (hn : n ≤ 6) (en : sx_i m 3 = nI n) (kk : pj_J G mX4_order (d + 9) 45 [some (.ref 59), some (.int p), none, none, none, none] [] (sx_mk c m o D) 0 0 Q) : pj_J G mX4_order (d + 9) 24 [some (.ref 59), some (.int p), some (.int (nI n)), none, none, none] [] (sx_mk c m o D) 0 0 Q := by
  refine pj_J.go (oX4_order G) 4 rfl trivial ?_
  refine pj_J.pos (by rw [en]; exact nI_ge_lit (Nat.le_refl _) (by omega)) ?_
  exact pj_J.drp kk ⟨rfl, rfl, trivial⟩
theorem lx_orA {G : pj_G} {d : Nat} {c : sx_C} {m : sx_M} {o : Nat → Int64} {D : pj_H} {Q : pj_O → pj_H → Prop} (p r : Int32) (m1 : sx_M) (ct : pj_Rt G mX4_triesOrder (d + 8) [.ref 59, .int p] (sx_mk c m o D) 0 0 (some (.int r)) (sx_mk c m1 o D)) (kk : pj_J G mX4_order (d + 9) 57 [some (.ref 59), some (.int p), some (.int r), some (.int 0), none, none] [] (sx_mk c (fm_notes m1) o D) 0 0 Q) : pj_J G mX4_order (d + 9) 45 [some (.ref 59), some (.int p), none, none, none, none] [] (sx_mk c m o D) 0 0 Q := by
  refine pj_J.go (oX4_order G) 2 rfl trivial ?_
  refine pj_J.cal0 kX4_order_47 (ct) ⟨_, _, _, rfl, rfl⟩ pj_le0 pj_le0 pj_le0 ?_
  refine pj_J.go (oX4_order G) 2 rfl trivial ?_
  refine pj_J.cal0 kX4_order_52 (c_X4_notes (m := m1)) ⟨_, _, _, rfl, rfl⟩ pj_le0 pj_le0 pj_le0 ?_
  refine pj_J.go (oX4_order G) 2 rfl trivial ?_
  exact kk
theorem lz_orF {G : pj_G} {d : Nat} {c : sx_C} {m : sx_M} {o : Nat → Int64} {D : pj_H} {Q : pj_O → pj_H → Prop} (p f : Int32) (n : Nat) (hn : n ≤ 6) (en : sx_i m 3 = nI n) (kk : pj_J G mX4_order (d + 9) 88 [some (.ref 59), some (.int p), some (.int f), some (.int 0), none, none] [] (sx_mk c m o D) 0 0 Q) : pj_J G mX4_order (d + 9) 57 [some (.ref 59), some (.int p), some (.int f), some (.int (nI n)), none, none] [] (sx_mk c m o D) 0 0 Q := by
  refine pj_J.go (oX4_order G) 4 rfl trivial ?_
  refine pj_J.pos (by rw [en]; exact nI_ge_lit (Nat.le_refl _) (by omega)) ?_
  refine pj_J.go (oX4_order G) 2 rfl trivial ?_
  exact kk
theorem lz_orE {G : pj_G} {d : Nat} {c : sx_C} {m : sx_M} {o : Nat → Int64} {D : pj_H} {Q : pj_O → pj_H → Prop} (p f z s : Int32) (ms : sx_M) (hs : s = 0) (cs : pj_Rt G mX4_steps (d + 8) [.ref 59] (sx_mk c m o D) 0 0 (some (.int s)) (sx_mk c ms o D)) (q : Q (.inl (some (.int 9999999))) (sx_mk c ms o D)) : pj_J G mX4_order (d + 9) 88 [some (.ref 59), some (.int p), some (.int f), some (.int z), none, none] [] (sx_mk c m o D) 0 0 Q := by
  refine pj_J.go (oX4_order G) 1 rfl trivial ?_
  refine pj_J.cal0 kX4_order_89 (cs) ⟨_, _, _, rfl, rfl⟩ pj_le0 pj_le0 pj_le0 ?_
  refine pj_J.go (oX4_order G) 1 rfl trivial ?_
  refine pj_J.pos (hs) ?_
  refine pj_J.go (oX4_order G) 1 rfl trivial ?_
  exact pj_iret dX4_order_191 rfl q
def fm_orD (r f : Int32) (m : sx_M) : Int32 := if r = f then (if fm_differs m 1 = 0 then 0 else 1) else 1
theorem lx_orR {G : pj_G} {d : Nat} {c : sx_C} {m : sx_M} {o : Nat → Int64} {D : pj_H} {Q : pj_O → pj_H → Prop} (p f z s r : Int32) (ms m1 : sx_M) (hs : ¬ s = 0) (cs : pj_Rt G mX4_steps (d + 8) [.ref 59] (sx_mk c m o D) 0 0 (some (.int s)) (sx_mk c ms o D)) (ct : pj_Rt G mX4_triesOrder (d + 8) [.ref 59, .int p] (sx_mk c ms o D) 0 0 (some (.int r)) (sx_mk c m1 o D)) (kk : pj_J G mX4_order (d + 9) 125 [some (.ref 59), some (.int p), some (.int f), some (.int (z + 1)), some (.int (fm_orD r f m1)), some (.int 0)] [] (sx_mk c m1 o D) 0 0 Q) : pj_J G mX4_order (d + 9) 88 [some (.ref 59), some (.int p), some (.int f), some (.int z), none, none] [] (sx_mk c m o D) 0 0 Q := by
  refine pj_J.go (oX4_order G) 1 rfl trivial ?_
  refine pj_J.cal0 kX4_order_89 (cs) ⟨_, _, _, rfl, rfl⟩ pj_le0 pj_le0 pj_le0 ?_
  refine pj_J.go (oX4_order G) 1 rfl trivial ?_
  refine pj_J.neg (hs) ?_
  refine pj_J.go (oX4_order G) 3 rfl trivial ?_
  refine pj_J.cal0 kX4_order_100 (ct) ⟨_, _, _, rfl, rfl⟩ pj_le0 pj_le0 pj_le0 ?_
  refine pj_J.go (oX4_order G) 2 rfl trivial ?_
  refine pj_J.ite (fun hc104 => ?_) (fun hc104 => ?_)
  · skip
    refine pj_J.go (oX4_order G) 2 rfl trivial ?_
    refine pj_J.cal0 kX4_order_109 (c_X4_differs (m := m1) (1 : Int64)) ⟨_, _, _, rfl, rfl⟩ pj_le0 pj_le0 pj_le0 ?_
    refine pj_J.go (oX4_order G) 1 rfl trivial ?_
    refine pj_J.ite (fun hc112 => ?_) (fun hc112 => ?_)
    · skip
      refine pj_J.go (oX4_order G) 4 rfl trivial ?_
      unfold fm_orD at kk
      rw [if_pos (show r = f from hc104), if_pos (show (fm_differs m1 (1 : Int64)) = (0 : Int32) from hc112)] at kk
      exact kk
    · skip
      refine pj_J.go (oX4_order G) 5 rfl trivial ?_
      unfold fm_orD at kk
      rw [if_pos (show r = f from hc104), if_neg (show ¬ ((fm_differs m1 (1 : Int64)) = (0 : Int32)) from hc112)] at kk
      exact kk
  · skip
    refine pj_J.go (oX4_order G) 5 rfl trivial ?_
    unfold fm_orD at kk
    rw [if_neg (show ¬ (r = f) from hc104)] at kk
    exact kk
theorem lz_orM {G : pj_G} {d : Nat} {c : sx_C} {m : sx_M} {o : Nat → Int64} {D : pj_H} {Q : pj_O → pj_H → Prop} (p f z mt : Int32) (n : Nat) (hn : n ≤ 6) (en : sx_i m 3 = nI n) (q : ¬ mt = 0 → Q (.inl (some (.int z))) (sx_mk c m o D)) (kk : mt = 0 → pj_J G mX4_order (d + 9) 88 [some (.ref 59), some (.int p), some (.int f), some (.int z), none, none] [] (sx_mk c m o D) 0 0 Q) : pj_J G mX4_order (d + 9) 125 [some (.ref 59), some (.int p), some (.int f), some (.int z), some (.int mt), some (.int (nI n))] [] (sx_mk c m o D) 0 0 Q := by
  refine pj_J.go (oX4_order G) 4 rfl trivial ?_
  refine pj_J.pos (by rw [en]; exact nI_ge_lit (Nat.le_refl _) (by omega)) ?_
  refine pj_J.go (oX4_order G) 2 rfl trivial ?_
  refine pj_J.ite (fun hc180 => ?_) (fun hc180 => ?_)
  · skip
    refine pj_J.go (oX4_order G) 1 rfl trivial ?_
    exact pj_J.drp (kk hc180) ⟨rfl, rfl, rfl, rfl, trivial⟩
  · skip
    refine pj_J.go (oX4_order G) 1 rfl trivial ?_
    exact pj_iret dX4_order_184 rfl (q hc180)
theorem lp_orM {G : pj_G} {d : Nat} {c : sx_C} {m : sx_M} {o : Nat → Int64} {D : pj_H} {Q : pj_O → pj_H → Prop} (p f z mt : Int32) (n : Nat) (hn : n ≤ 6) (en : sx_i m 3 = nI n) (hpl : ∀ k, k < n → vp_in (sx_I m 46 k) 12) (q : ¬ it_up (fm_orM m) n 0 mt = 0 → Q (.inl (some (.int z))) (sx_mk c m o D)) (kk : it_up (fm_orM m) n 0 mt = 0 → pj_J G mX4_order (d + 9) 88 [some (.ref 59), some (.int p), some (.int f), some (.int z), none, none] [] (sx_mk c m o D) 0 0 Q) : pj_J G mX4_order (d + 9) 125 [some (.ref 59), some (.int p), some (.int f), some (.int z), some (.int mt), some (.int 0)] [] (sx_mk c m o D) 0 0 Q :=
  pj_for (fun k w => pj_J G mX4_order (d + 9) 125 [some (.ref 59), some (.int p), some (.int f), some (.int z), some (.int w), some (.int (nI k))] [] (sx_mk c m o D) 0 0 Q) (fm_orM m) (fun _ _ => True) n (fun k w hk hi => ⟨hi, fun kk => ly_fm_orM p f z n hn en hpl k w hk (by rw [nI_add1]; exact kk)⟩) n 0 mt (by simp) trivial (fun _ => lz_orM p f z _ n hn en q kk)
/-- places come to an end within e steps -/
def fm_ends (n : Nat) : Nat → (Nat → Int32) → Prop
  | 0, _ => False
  | e + 1, f => match fm_turn n f with
    | none => True
    | some g => fm_ends n e g
def fm_orL (TO : sx_M → Int32 × sx_M) (n : Nat) (f : Int32) : Nat → Nat → sx_M → Int32 × sx_M
  | 0, _, m => (0, m)
  | e + 1, k, m => match fm_turn n (sx_I m 46) with
    | none => (9999999, m)
    | some g => if it_up (fm_orM (TO (sx_sI m 46 g)).2) n 0 (fm_orD (TO (sx_sI m 46 g)).1 f (TO (sx_sI m 46 g)).2) = 0 then fm_orL TO n f e (k + 1) (TO (sx_sI m 46 g)).2 else (nI (k + 1), (TO (sx_sI m 46 g)).2)
theorem lp_orL {G : pj_G} {d : Nat} {c : sx_C} {o : Nat → Int64} {D : pj_H} {Q : pj_O → pj_H → Prop} (TO : sx_M → Int32 × sx_M) (p f : Int32) (n : Nat) (hn : n ≤ 6) (I : sx_M → Prop) (hI : ∀ m, I m → sx_i m 3 = nI n ∧ ∀ k, k < n → vp_in (sx_I m 46 k) 12) (hT : ∀ m g, I m → fm_turn n (sx_I m 46) = some g → pj_Rt G mX4_triesOrder (d + 8) [.ref 59, .int p] (sx_mk c (sx_sI m 46 g) o D) 0 0 (some (.int (TO (sx_sI m 46 g)).1)) (sx_mk c (TO (sx_sI m 46 g)).2 o D) ∧ I (TO (sx_sI m 46 g)).2 ∧ sx_I (TO (sx_sI m 46 g)).2 46 = g) :
    ∀ (e k : Nat) (m : sx_M), I m → fm_ends n e (sx_I m 46) → Q (.inl (some (.int (fm_orL TO n f e k m).1))) (sx_mk c (fm_orL TO n f e k m).2 o D) → pj_J G mX4_order (d + 9) 88 [some (.ref 59), some (.int p), some (.int f), some (.int (nI k)), none, none] [] (sx_mk c m o D) 0 0 Q := by
  intro e
  induction e with
  | zero => intro k m _ h; exact h.elim
  | succ e ih =>
    intro k m hi he hq
    have cs := c_X4_steps (G := G) (d := d + 8) (c := c) (o := o) (D := D) n hn (hI m hi).1
    unfold fm_stR at cs
    unfold fm_orL at hq
    unfold fm_ends at he
    cases ht : fm_turn n (sx_I m 46) with
    | none =>
      rw [ht] at cs hq
      exact lz_orE p f (nI k) 0 m rfl cs hq
    | some g =>
      rw [ht] at cs hq he
      dsimp only at cs hq he
      obtain ⟨h1, h2, h3⟩ := hT m g hi ht
      refine lx_orR p f (nI k) 1 _ _ _ (by decide) cs h1 ?_
      rw [nI_add1]
      refine lp_orM p f (nI (k + 1)) _ n hn (hI _ h2).1 (hI _ h2).2 (fun h => ?_) (fun h => ?_)
      · rw [if_neg h] at hq
        exact hq
      · rw [if_pos h] at hq
        exact ih (k + 1) _ h2 (by rw [h3]; exact he) hq
def fm_or0 (n : Nat) (m : sx_M) : sx_M := it_up fm_orP n 0 m
def fm_or1 (n : Nat) (m : sx_M) : sx_M := it_up fm_orF n 0 (fm_notes m)
def fm_order (TO : sx_M → Int32 × sx_M) (m : sx_M) (p : Int32) (e : Nat) : Int32 × sx_M := if fm_isProgram m p = 0 then (-1, m) else if sx_i m 3 ≤ 6 then fm_orL TO (sx_i m 3).toNatClampNeg (TO (fm_or0 (sx_i m 3).toNatClampNeg m)).1 e 0 (fm_or1 (sx_i m 3).toNatClampNeg (TO (fm_or0 (sx_i m 3).toNatClampNeg m)).2) else (-2, m)
theorem fm_orP_I : ∀ (c k : Nat) (m : sx_M), (it_up fm_orP c k m).1 = m.1 := by
  intro c
  induction c with
  | zero => intro k m; rfl
  | succ c ih => intro k m; exact ih (k + 1) _
theorem lp_orA {G : pj_G} {d : Nat} {c : sx_C} {m : sx_M} {o : Nat → Int64} {D : pj_H} {Q : pj_O → pj_H → Prop} (TO : sx_M → Int32 × sx_M) (p : Int32) (n : Nat) (hn : n ≤ 6) (en : sx_i m 3 = nI n) (ct : pj_Rt G mX4_triesOrder (d + 8) [.ref 59, .int p] (sx_mk c (fm_or0 n m) o D) 0 0 (some (.int (TO (fm_or0 n m)).1)) (sx_mk c (TO (fm_or0 n m)).2 o D)) (e2 : sx_i (TO (fm_or0 n m)).2 3 = nI n) (kk : pj_J G mX4_order (d + 9) 88 [some (.ref 59), some (.int p), some (.int ((TO (fm_or0 n m)).1)), some (.int (nI 0)), none, none] [] (sx_mk c (fm_or1 n (TO (fm_or0 n m)).2) o D) 0 0 Q) : pj_J G mX4_order (d + 9) 24 [some (.ref 59), some (.int p), some (.int 0), none, none, none] [] (sx_mk c m o D) 0 0 Q := by
  refine pj_for (fun k s => pj_J G mX4_order (d + 9) 24 [some (.ref 59), some (.int p), some (.int (nI k)), none, none, none] [] (sx_mk c s o D) 0 0 Q) fm_orP (fun _ s => s.1 = m.1) n (fun k s hk hi => ⟨hi, fun kk => ly_fm_orP p n hn (by show s.1 3 = _; rw [hi]; exact en) k hk (by rw [nI_add1]; exact kk)⟩) n 0 m (by simp) rfl (fun hi => lz_orP p n hn (by show (it_up fm_orP n 0 m).1 3 = _; rw [hi]; exact en) ?_)
  refine lx_orA p _ _ ct ?_
  exact pj_for (fun k s => pj_J G mX4_order (d + 9) 57 [some (.ref 59), some (.int p), some (.int ((TO (fm_or0 n m)).1)), some (.int (nI k)), none, none] [] (sx_mk c s o D) 0 0 Q) fm_orF (fun _ s => sx_i s 3 = nI n) n (fun k s hk hi => ⟨hi, fun kk => ly_fm_orF p _ n hn hi k hk (by rw [nI_add1]; exact kk)⟩) n 0 (fm_notes (TO (fm_or0 n m)).2) (by simp) e2 (fun hi => lz_orF p _ n hn hi kk)
theorem c_X4_order {G : pj_G} {d : Nat} {c : sx_C} {m : sx_M} {o : Nat → Int64} {D : pj_H} (p : Int32) (TO : sx_M → Int32 × sx_M) (e : Nat) (ck : ¬ fm_isProgram m p = 0 → sx_i m 3 ≤ 6 → ∀ Q : pj_O → pj_H → Prop, Q (.inl (some (.int (fm_orL TO (sx_i m 3).toNatClampNeg (TO (fm_or0 (sx_i m 3).toNatClampNeg m)).1 e 0 (fm_or1 (sx_i m 3).toNatClampNeg (TO (fm_or0 (sx_i m 3).toNatClampNeg m)).2)).1))) (sx_mk c (fm_orL TO (sx_i m 3).toNatClampNeg (TO (fm_or0 (sx_i m 3).toNatClampNeg m)).1 e 0 (fm_or1 (sx_i m 3).toNatClampNeg (TO (fm_or0 (sx_i m 3).toNatClampNeg m)).2)).2 o D) → pj_J G mX4_order (d + 9) 24 [some (.ref 59), some (.int p), some (.int 0), none, none, none] [] (sx_mk c m o D) 0 0 Q) : pj_Rt G mX4_order (d + 9) [.ref 59, .int p] (sx_mk c m o D) 0 0 (some (.int ((fm_order TO m p e).1))) (sx_mk c (fm_order TO m p e).2 o D) := by
  refine pj_Cn.start ?_
  refine pj_J.go (oX4_order G) 2 rfl trivial ?_
  refine pj_J.cal0 kX4_order_2 (c_X4_isProgram (m := m) p) ⟨_, _, _, rfl, rfl⟩ pj_le0 pj_le0 pj_le0 ?_
  refine pj_J.go (oX4_order G) 1 rfl trivial ?_
  refine pj_J.ite (fun hc5 => ?_) (fun hc5 => ?_)
  · skip
    refine pj_J.go (oX4_order G) 1 rfl trivial ?_
    refine pj_iret dX4_order_9 rfl ?_
    show _ = _ ∧ _ = _
    have e : fm_order TO m p e = ((-1 : Int32), m) := by unfold fm_order; rw [if_pos (show (fm_isProgram m p) = (0 : Int32) from hc5)]
    rw [e]
    try dsimp only
    exact ⟨rfl, rfl⟩
  · skip
    refine pj_J.go (oX4_order G) 4 rfl trivial ?_
    refine pj_J.ite (fun hc16 => ?_) (fun hc16 => ?_)
    · skip
      refine pj_J.go (oX4_order G) 2 rfl trivial ?_
      refine ck hc5 hc16 _ ?_
      show _ = _ ∧ _ = _
      unfold fm_order
      rw [if_neg (show ¬ ((fm_isProgram m p) = (0 : Int32)) from hc5), if_pos (show (sx_i m 3) ≤ (6 : Int32) from hc16)]
      exact ⟨rfl, rfl⟩
    · skip
      refine pj_J.go (oX4_order G) 1 rfl trivial ?_
      refine pj_iret dX4_order_21 rfl ?_
      show _ = _ ∧ _ = _
      have e : fm_order TO m p e = ((-2 : Int32), m) := by unfold fm_order; rw [if_neg (show ¬ ((fm_isProgram m p) = (0 : Int32)) from hc5), if_neg (show ¬ ((sx_i m 3) ≤ (6 : Int32)) from hc16)]
      rw [e]
      try dsimp only
      exact ⟨rfl, rfl⟩
