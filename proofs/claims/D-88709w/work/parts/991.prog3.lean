/-! an act is changed; what is carried is changed; what is told. Own work. -/
set_option maxRecDepth 100000
theorem getset {D : pj_H} {i j : Nat} {x y : pj_E} : ((D.set i x).set i y)[j]? = (D.set i y)[j]? := by
  rw [List.set_set]
/-- an act is changed -/
theorem se_new {c : sx_C} {m : sx_M} {D : pj_H} {t : pgT} {p k : Nat} {tt v : Int32} (hv : iv c m) (h1 : ∀ p, p < (sx_i m 7).toNatClampNeg → pg_one c m D t p) (h2 : pg_ap (sx_i m 7).toNatClampNeg t) (hp : p < (sx_i m 7).toNatClampNeg) (hk : k < pg_n t p) (hf : fit (pg_A t p k).1 tt v) (z : pj_E) :
    iv c (sx_sI (sx_sI m 11 (upd (sx_I m 11) (20 * p + k) tt)) 12 (upd (sx_I m 12) (20 * p + k) v)) ∧ ipg c (sx_sI (sx_sI m 11 (upd (sx_I m 11) (20 * p + k) tt)) 12 (upd (sx_I m 12) (20 * p + k) v)) ((D.set (pg_x t p k) z).set (pg_x t p k) (act_cell ((pg_A t p k).1, (pg_A t p k).2.1, tt, v))) := by
  refine ⟨hv, ?_⟩
  have lD : ∀ {i : Nat} {x : pj_E}, D[i]? = some x → i < D.length := fun h => (List.getElem?_eq_some_iff.mp h).1
  rw [List.set_set]
  generalize hE : D.set (pg_x t p k) (act_cell ((pg_A t p k).1, (pg_A t p k).2.1, tt, v)) = E
  have ok := (h1 p hp).2.2.2.2.2 k hk
  have Ex : E[pg_x t p k]? = some (act_cell ((pg_A t p k).1, (pg_A t p k).2.1, tt, v)) := by rw [← hE, List.getElem?_set_self (lD ok.2.2)]
  have Eo : ∀ (i : Nat) (x : pj_E), D[i]? = some x → i ≠ pg_x t p k → E[i]? = some x := fun i x hi e => by rw [← hE, List.getElem?_set_ne (Ne.symm e)]; exact hi
  refine ⟨(pg_pi t, pg_ai t, pg_n t, pg_f t, pg_x t, va_up (pg_A t) p (va_up (pg_A t p) k ((pg_A t p k).1, (pg_A t p k).2.1, tt, v))), fun q hq => ?_, h2⟩
  have hq : q < (sx_i m 7).toNatClampNeg := hq
  obtain ⟨q1, q2, q3, ⟨q4a, q4b, q4c⟩, q5, q6⟩ := h1 q hq
  refine ⟨q1, Eo _ _ q2 (ne_of_cells q2 ok.2.2 (pg_px _ _ _ _ _)), Eo _ _ q3 (ne_of_cells q3 ok.2.2 (pg_ax _ _)), ⟨q4a, q4b, fun l hl => ?_⟩, q5, fun l hl => ?_⟩
  · show sx_I m 9 (20 * q + l) = nI (va_up (pg_A t) p _ q l).1 ∧ sx_I m 10 (20 * q + l) = (va_up (pg_A t) p _ q l).2.1 ∧ upd (sx_I m 11) (20 * p + k) tt (20 * q + l) = (va_up (pg_A t) p _ q l).2.2.1 ∧ upd (sx_I m 12) (20 * p + k) v (20 * q + l) = (va_up (pg_A t) p _ q l).2.2.2 ∧ vp_in (va_up (pg_A t) p _ q l).2.1 8 ∧ fit (va_up (pg_A t) p _ q l).1 (va_up (pg_A t) p _ q l).2.2.1 (va_up (pg_A t) p _ q l).2.2.2
    have hl20 : l < 20 := by have := q4a; have hl : l < pg_n t q := hl; omega
    have hk20 : k < 20 := by have := (h1 p hp).2.2.2.1.1; omega
    have old := q4c l hl
    rw [rg_u, rg_u]
    by_cases c : q = p ∧ l = k
    · obtain ⟨rfl, rfl⟩ := c
      simp only [va_up, if_true]
      exact ⟨old.1, old.2.1, True.intro, True.intro, old.2.2.2.2.1, hf⟩
    · rw [if_neg (by omega), if_neg (by omega)]
      have : va_up (pg_A t) p (va_up (pg_A t p) k ((pg_A t p k).1, (pg_A t p k).2.1, tt, v)) q l = pg_A t q l := by
        unfold va_up
        by_cases e : q = p
        · rw [if_pos e, if_neg (fun z => c ⟨e, z⟩), e]
        · rw [if_neg e]
      rw [this]; exact old
  · have old := q6 l hl
    show pg_f t q l = _ ∧ (va_up (pg_A t) p _ q l).1 < 13 ∧ E[pg_x t q l]? = some (act_cell (va_up (pg_A t) p _ q l))
    by_cases c : q = p ∧ l = k
    · obtain ⟨rfl, rfl⟩ := c
      simp only [va_up, if_true]
      exact ⟨old.1, old.2.1, Ex⟩
    · have : va_up (pg_A t) p (va_up (pg_A t p) k ((pg_A t p k).1, (pg_A t p k).2.1, tt, v)) q l = pg_A t q l := by
        unfold va_up
        by_cases e : q = p
        · rw [if_pos e, if_neg (fun z => c ⟨e, z⟩), e]
        · rw [if_neg e]
      rw [this]
      refine ⟨old.1, old.2.1, Eo _ _ old.2.2 fun z => c ?_⟩
      exact h2.2 q p l k hq hp hl hk z
/-- what a program carries is changed -/
theorem ca_new {c x : sx_C} {m y : sx_M} {D : pj_H} {t : pgT} {p : Nat} (h1 : ∀ p, p < (sx_i m 7).toNatClampNeg → pg_one c m D t p) (h2 : pg_ap (sx_i m 7).toNatClampNeg t) (hp : p < (sx_i m 7).toNatClampNeg) (hP : sx_P x = sx_P c) (hI : ∀ i, 8 ≤ i → i ≤ 12 → sx_I y i = sx_I m i) (h7 : sx_i y 7 = sx_i m 7) (hL : ∀ q, q ≠ p → sx_L y 24 q = sx_L m 24 q ∧ sx_L y 25 q = sx_L m 25 q) (hn : rl_n (sx_L y 24 p) (sx_L y 25 p)) (z : pj_E) :
    ipg x y ((D.set (pg_pi t p) z).set (pg_pi t p) (pg_cell (pg_ai t p) (pg_n t p) (sx_L y 24 p) (sx_L y 25 p))) := by
  have lD : ∀ {i : Nat} {x : pj_E}, D[i]? = some x → i < D.length := fun h => (List.getElem?_eq_some_iff.mp h).1
  rw [List.set_set]
  have o := h1 p hp
  refine ⟨t, fun q hq => ?_, by rw [h7]; exact h2⟩
  rw [h7] at hq
  obtain ⟨q1, q2, q3, q4, q5, q6⟩ := h1 q hq
  have Eo : ∀ (i : Nat) (w : pj_E), D[i]? = some w → i ≠ pg_pi t p → (D.set (pg_pi t p) (pg_cell (pg_ai t p) (pg_n t p) (sx_L y 24 p) (sx_L y 25 p)))[i]? = some w := fun i w hi e => by rw [List.getElem?_set_ne (Ne.symm e)]; exact hi
  refine ⟨by rw [hP]; exact q1, ?_, Eo _ _ q3 (Ne.symm (ne_of_cells o.2.1 q3 (pg_pa _ _ _ _ _))), ?_, ?_, fun k hk => ⟨(q6 k hk).1, (q6 k hk).2.1, Eo _ _ (q6 k hk).2.2 (Ne.symm (ne_of_cells o.2.1 (q6 k hk).2.2 (pg_px _ _ _ _ _)))⟩⟩
  · by_cases e : q = p
    · subst e
      rw [List.getElem?_set_self (lD q2)]
    · rw [(hL q e).1, (hL q e).2]
      exact Eo _ _ q2 (h2.1 q p hq hp e).1
  · unfold rp
    rw [hI 8 (by omega) (by omega), hI 9 (by omega) (by omega), hI 10 (by omega) (by omega), hI 11 (by omega) (by omega), hI 12 (by omega) (by omega)]
    exact q4
  · by_cases e : q = p
    · rw [e]; exact hn
    · rw [(hL q e).1, (hL q e).2]; exact q5
/-- whether an act is there -/
theorem isAct_yes {c : sx_C} {m : sx_M} {D : pj_H} {t : pgT} {p k : Nat} (hv : iv c m) (h1 : pg_one c m D t p) (hp : p < (sx_i m 7).toNatClampNeg) (hk : k < pg_n t p) : fm_isAct m (nI p) (nI k) = 1 := by
  have hlt := vp_lt hv.2.2.2.1
  obtain ⟨P, hP, eP⟩ := vp_in_of hv.2.2.2.1 (by decide)
  rw [eP, rl_c (show P < 100000 by omega)] at hp
  have n20 := h1.2.2.2.1.1
  unfold fm_isAct fm_isProgram
  rw [eP, show nI P - 1 = nI (P - 1) from by rw [show (1 : Int32) = nI 1 from rfl]; exact pk_sub (by omega), in_yes (nI_pos (by omega)) (nI_nlt (by omega) (by omega)), if_neg (by decide : ¬ (1 : Int32) = 0), rl_c (show p < 100000 by omega), h1.2.2.2.1.2.1, show nI (pg_n t p) - 1 = nI (pg_n t p - 1) from by rw [show (1 : Int32) = nI 1 from rfl]; exact pk_sub (by omega), in_yes (nI_pos (by omega)) (nI_nlt (by omega) (by omega)), if_neg (by decide : ¬ (1 : Int32) = 0)]
theorem isAct_no {c : sx_C} {m : sx_M} {D : pj_H} {t : pgT} {p : Nat} {i : Int32} (h1 : pg_one c m D t p) (hp : p < 4) (hi : i < 0 ∨ ¬ i < nI (pg_n t p)) : fm_isAct m (nI p) i = 0 := by
  have n20 := h1.2.2.2.1.1
  unfold fm_isAct
  by_cases c : fm_isProgram m (nI p) = 0
  · rw [if_pos c]
  · rw [if_neg c, rl_c (show p < 100000 by omega), h1.2.2.2.1.2.1, in_no, if_pos rfl]
    rcases hi with h | h
    · exact Or.inl h
    · by_cases z : i < 0
      · exact Or.inl z
      · right
        rw [Int32.lt_iff_toInt_lt] at *
        rw [nI_toInt (by omega)] at h
        have e : (nI (pg_n t p) - 1).toInt = (pg_n t p : Int) - 1 := pk_sub_toInt (a := pg_n t p) (b := 1) (by omega) (by decide)
        rw [e]; omega
