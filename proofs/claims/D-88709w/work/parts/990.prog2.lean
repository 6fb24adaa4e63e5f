/-! acts are added, changed; a run's carried fraction. Own work. -/
set_option maxRecDepth 100000
theorem wi_vp {v : Int32} {n : Nat} (hn : n < 2 ^ 31) {hi : Int32} (hhi : hi = nI n) (h : ¬ fm_in v 0 hi = 0) : vp_in v (n + 1) := by
  unfold fm_in pj_b at h
  by_cases c : (0 : Int32) ≤ v ∧ v ≤ hi
  · rw [Int32.le_iff_toInt_le, Int32.le_iff_toInt_le, hhi, nI_toInt hn, show (0 : Int32).toInt = 0 from rfl] at c
    exact vp_in_iff.mpr (by omega)
  · rw [if_neg c] at h; exact absurd rfl h
theorem wi_b {v lo hi : Int32} (h : ¬ fm_in v lo hi = 0) : lo.toInt ≤ v.toInt ∧ v.toInt ≤ hi.toInt := by
  unfold fm_in pj_b at h
  by_cases c : lo ≤ v ∧ v ≤ hi
  · rw [Int32.le_iff_toInt_le, Int32.le_iff_toInt_le] at c
    exact c
  · rw [if_neg c] at h; exact absurd rfl h
theorem if01 {c : Prop} [Decidable c] {x : Int32} (h : ¬ (if c then (0 : Int32) else x) = 0) : ¬ c ∧ ¬ x = 0 := by
  by_cases q : c
  · rw [if_pos q] at h; exact absurd rfl h
  · rw [if_neg q] at h; exact ⟨q, h⟩
theorem if10 {c : Prop} [Decidable c] {x : Int32} (h : ¬ (if c then x else (0 : Int32)) = 0) : c ∧ ¬ x = 0 := by
  by_cases q : c
  · rw [if_pos q] at h; exact ⟨q, h⟩
  · rw [if_neg q] at h; exact absurd rfl h
theorem fits_fit {a : Nat} (ha : a < 13) {t v : Int32} (h : ¬ fm_fits (nI a) t v = 0) : fit a t v := by
  unfold fm_fits at h
  rcases (by omega : a = 0 ∨ a = 1 ∨ a = 2 ∨ a = 3 ∨ a = 4 ∨ a = 5 ∨ a = 6 ∨ a = 7 ∨ a = 8 ∨ a = 9 ∨ a = 10 ∨ a = 11 ∨ a = 12) with rfl | rfl | rfl | rfl | rfl | rfl | rfl | rfl | rfl | rfl | rfl | rfl | rfl
  · rw [if_neg (by decide : ¬ nI 0 = 1), if_neg (by decide : ¬ nI 0 = 2), if_neg (by decide : ¬ nI 0 = 3), if_neg (by decide : ¬ nI 0 = 4), if_neg (by decide : ¬ nI 0 = 5), if_neg (by decide : ¬ nI 0 = 6), if_neg (by decide : ¬ nI 0 = 7), if_neg (by decide : ¬ nI 0 = 8), if_neg (by decide : ¬ nI 0 = 9), if_neg (by decide : ¬ nI 0 = 10), if_neg (by decide : ¬ nI 0 = 11), if_neg (by decide : ¬ nI 0 = 12)] at h
    obtain ⟨a, b⟩ := if10 h
    exact ⟨a, (if10 b).1⟩
  · rw [if_pos (by decide : nI 1 = 1)] at h
    obtain ⟨a, b⟩ := if01 h
    exact ⟨wi_vp (n := 7) (by decide) rfl a, wi_vp (n := 5) (by decide) rfl (if01 b).1⟩
  · rw [if_neg (by decide : ¬ nI 2 = 1), if_pos (by decide : nI 2 = 2)] at h
    obtain ⟨a, b⟩ := if01 h
    exact ⟨wi_vp (n := 7) (by decide) rfl a, wi_vp (n := 5) (by decide) rfl (if01 b).1⟩
  · rw [if_neg (by decide : ¬ nI 3 = 1), if_neg (by decide : ¬ nI 3 = 2), if_pos (by decide : nI 3 = 3)] at h
    obtain ⟨a, b⟩ := if01 h
    exact ⟨wi_vp (n := 7) (by decide) rfl a, wi_vp (n := 7) (by decide) rfl (if01 b).1⟩
  · rw [if_neg (by decide : ¬ nI 4 = 1), if_neg (by decide : ¬ nI 4 = 2), if_neg (by decide : ¬ nI 4 = 3), if_pos (by decide : nI 4 = 4)] at h
    obtain ⟨a, b⟩ := if01 h
    exact ⟨wi_vp (n := 5) (by decide) rfl a, wi_b (if01 b).1⟩
  · rw [if_neg (by decide : ¬ nI 5 = 1), if_neg (by decide : ¬ nI 5 = 2), if_neg (by decide : ¬ nI 5 = 3), if_neg (by decide : ¬ nI 5 = 4), if_pos (by decide : nI 5 = 5)] at h
    obtain ⟨a, b⟩ := if01 h
    exact ⟨wi_vp (n := 7) (by decide) rfl a, wi_vp (n := 1) (by decide) rfl (if01 b).1⟩
  · rw [if_neg (by decide : ¬ nI 6 = 1), if_neg (by decide : ¬ nI 6 = 2), if_neg (by decide : ¬ nI 6 = 3), if_neg (by decide : ¬ nI 6 = 4), if_neg (by decide : ¬ nI 6 = 5), if_pos (by decide : nI 6 = 6)] at h
    obtain ⟨a, b⟩ := if01 h
    exact ⟨wi_vp (n := 3) (by decide) rfl a, wi_vp (n := 3) (by decide) rfl (if01 b).1⟩
  · rw [if_neg (by decide : ¬ nI 7 = 1), if_neg (by decide : ¬ nI 7 = 2), if_neg (by decide : ¬ nI 7 = 3), if_neg (by decide : ¬ nI 7 = 4), if_neg (by decide : ¬ nI 7 = 5), if_neg (by decide : ¬ nI 7 = 6), if_pos (by decide : nI 7 = 7)] at h
    obtain ⟨a, b⟩ := if01 h
    exact ⟨wi_vp (n := 7) (by decide) rfl a, (if10 b).1⟩
  · rw [if_neg (by decide : ¬ nI 8 = 1), if_neg (by decide : ¬ nI 8 = 2), if_neg (by decide : ¬ nI 8 = 3), if_neg (by decide : ¬ nI 8 = 4), if_neg (by decide : ¬ nI 8 = 5), if_neg (by decide : ¬ nI 8 = 6), if_neg (by decide : ¬ nI 8 = 7), if_pos (by decide : nI 8 = 8)] at h
    obtain ⟨a, b⟩ := if10 h
    exact ⟨a, (if10 b).1⟩
  · rw [if_neg (by decide : ¬ nI 9 = 1), if_neg (by decide : ¬ nI 9 = 2), if_neg (by decide : ¬ nI 9 = 3), if_neg (by decide : ¬ nI 9 = 4), if_neg (by decide : ¬ nI 9 = 5), if_neg (by decide : ¬ nI 9 = 6), if_neg (by decide : ¬ nI 9 = 7), if_neg (by decide : ¬ nI 9 = 8), if_pos (by decide : nI 9 = 9)] at h
    obtain ⟨a, b⟩ := if01 h
    exact ⟨wi_vp (n := 1) (by decide) rfl a, wi_b (if01 b).1⟩
  · rw [if_neg (by decide : ¬ nI 10 = 1), if_neg (by decide : ¬ nI 10 = 2), if_neg (by decide : ¬ nI 10 = 3), if_neg (by decide : ¬ nI 10 = 4), if_neg (by decide : ¬ nI 10 = 5), if_neg (by decide : ¬ nI 10 = 6), if_neg (by decide : ¬ nI 10 = 7), if_neg (by decide : ¬ nI 10 = 8), if_neg (by decide : ¬ nI 10 = 9), if_pos (by decide : nI 10 = 10)] at h
    obtain ⟨a, b⟩ := if01 h
    exact ⟨wi_vp (n := 7) (by decide) rfl a, wi_vp (n := 1) (by decide) rfl (if01 b).1⟩
  · rw [if_neg (by decide : ¬ nI 11 = 1), if_neg (by decide : ¬ nI 11 = 2), if_neg (by decide : ¬ nI 11 = 3), if_neg (by decide : ¬ nI 11 = 4), if_neg (by decide : ¬ nI 11 = 5), if_neg (by decide : ¬ nI 11 = 6), if_neg (by decide : ¬ nI 11 = 7), if_neg (by decide : ¬ nI 11 = 8), if_neg (by decide : ¬ nI 11 = 9), if_neg (by decide : ¬ nI 11 = 10), if_pos (by decide : nI 11 = 11)] at h
    obtain ⟨a, b⟩ := if01 h
    exact ⟨wi_vp (n := 7) (by decide) rfl a, wi_vp (n := 5) (by decide) rfl (if01 b).1⟩
  · rw [if_neg (by decide : ¬ nI 12 = 1), if_neg (by decide : ¬ nI 12 = 2), if_neg (by decide : ¬ nI 12 = 3), if_neg (by decide : ¬ nI 12 = 4), if_neg (by decide : ¬ nI 12 = 5), if_neg (by decide : ¬ nI 12 = 6), if_neg (by decide : ¬ nI 12 = 7), if_neg (by decide : ¬ nI 12 = 8), if_neg (by decide : ¬ nI 12 = 9), if_neg (by decide : ¬ nI 12 = 10), if_neg (by decide : ¬ nI 12 = 11), if_pos (by decide : nI 12 = 12)] at h
    obtain ⟨a, b⟩ := if01 h
    exact ⟨wi_vp (n := 7) (by decide) rfl a, wi_b (if01 b).1⟩
/-- cells of different make are apart -/
theorem ne_of_cells {D : pj_H} {i j : Nat} {x y : pj_E} (hi : D[i]? = some x) (hj : D[j]? = some y) (h : x ≠ y) : i ≠ j := fun e => by
  subst e
  rw [hi] at hj
  exact h (Option.some.inj hj)
theorem pg_pa (ai n : Nat) (cn cd : Int64) (f : Nat → Option Nat) : pg_cell ai n cn cd ≠ fp_row f := fun h => by cases h
theorem pg_px (ai n : Nat) (cn cd : Int64) (a : Nat × Int32 × Int32 × Int32) : pg_cell ai n cn cd ≠ act_cell a := fun h => by
  unfold pg_cell act_cell at h
  have := congrArg Prod.fst (Sum.inr.inj h)
  have : 4 = 5 + a.1 := this
  omega
theorem pg_ax (f : Nat → Option Nat) (a : Nat × Int32 × Int32 × Int32) : fp_row f ≠ act_cell a := fun h => by cases h
/-- an act more -/
theorem ac_new {c : sx_C} {m : sx_M} {D : pj_H} {t : pgT} {p a : Nat} {s tt v : Int32} (hv : iv c m) (h1 : ∀ p, p < (sx_i m 7).toNatClampNeg → pg_one c m D t p) (h2 : pg_ap (sx_i m 7).toNatClampNeg t) (hp : p < (sx_i m 7).toNatClampNeg) (hn : pg_n t p < 20) (hs : vp_in s 8) (hf : fit a tt v) :
    iv c (sx_sI (sx_sI (sx_sI (sx_sI (sx_sI m 9 (upd (sx_I m 9) (20 * p + pg_n t p) (nI a))) 10 (upd (sx_I m 10) (20 * p + pg_n t p) s)) 11 (upd (sx_I m 11) (20 * p + pg_n t p) tt)) 12 (upd (sx_I m 12) (20 * p + pg_n t p) v)) 8 (upd (sx_I m 8) p (nI (pg_n t p) + 1))) ∧
    ipg c (sx_sI (sx_sI (sx_sI (sx_sI (sx_sI m 9 (upd (sx_I m 9) (20 * p + pg_n t p) (nI a))) 10 (upd (sx_I m 10) (20 * p + pg_n t p) s)) 11 (upd (sx_I m 11) (20 * p + pg_n t p) tt)) 12 (upd (sx_I m 12) (20 * p + pg_n t p) v)) 8 (upd (sx_I m 8) p (nI (pg_n t p) + 1))) (fp_actD D (pg_pi t p) (pg_ai t p) (pg_n t p) a (pg_f t p) (sx_L m 24 p) (sx_L m 25 p) s tt v) := by
  refine ⟨hv, ?_⟩
  have hlt := vp_lt hv.2.2.2.1
  have one := h1 p hp
  obtain ⟨o1, o2, o3, ⟨o4a, o4b, o4c⟩, o5, o6⟩ := one
  have lD : ∀ {i : Nat} {x : pj_E}, D[i]? = some x → i < D.length := fun h => (List.getElem?_eq_some_iff.mp h).1
  have npa : pg_pi t p ≠ pg_ai t p := ne_of_cells o2 o3 (pg_pa _ _ _ _ _)
  have ED : fp_actD D (pg_pi t p) (pg_ai t p) (pg_n t p) a (pg_f t p) (sx_L m 24 p) (sx_L m 25 p) s tt v = ((D ++ [act_cell (a, s, tt, v)]).set (pg_ai t p) (fp_row (va_up (pg_f t p) (pg_n t p) (some (D.length + 98))))).set (pg_pi t p) (pg_cell (pg_ai t p) (pg_n t p + 1) (sx_L m 24 p) (sx_L m 25 p)) := by
    unfold fp_actD pg_cell
    rw [rl_c (show pg_n t p < 100000 by omega), nI_1]; rfl
  rw [ED]
  generalize hE : ((D ++ [act_cell (a, s, tt, v)]).set (pg_ai t p) (fp_row (va_up (pg_f t p) (pg_n t p) (some (D.length + 98))))).set (pg_pi t p) (pg_cell (pg_ai t p) (pg_n t p + 1) (sx_L m 24 p) (sx_L m 25 p)) = E
  have Ep : E[pg_pi t p]? = some (pg_cell (pg_ai t p) (pg_n t p + 1) (sx_L m 24 p) (sx_L m 25 p)) := by
    rw [← hE, List.getElem?_set_self (by simp; have := lD o2; omega)]
  have Ea : E[pg_ai t p]? = some (fp_row (va_up (pg_f t p) (pg_n t p) (some (D.length + 98)))) := by
    rw [← hE, List.getElem?_set_ne npa, List.getElem?_set_self (by simp; have := lD o3; omega)]
  have Ex : E[D.length]? = some (act_cell (a, s, tt, v)) := by
    rw [← hE, List.getElem?_set_ne (by have := lD o2; omega), List.getElem?_set_ne (by have := lD o3; omega), List.getElem?_append_right (Nat.le_refl _)]
    simp
  have Eo : ∀ (i : Nat) (x : pj_E), D[i]? = some x → i ≠ pg_pi t p → i ≠ pg_ai t p → E[i]? = some x := fun i x hi e1 e2 => by
    rw [← hE, List.getElem?_set_ne (Ne.symm e1), List.getElem?_set_ne (Ne.symm e2), List.getElem?_append_left (lD hi)]
    exact hi
  refine ⟨(pg_pi t, pg_ai t, va_up (pg_n t) p (pg_n t p + 1), va_up (pg_f t) p (va_up (pg_f t p) (pg_n t p) (some (D.length + 98))), va_up (pg_x t) p (va_up (pg_x t p) (pg_n t p) D.length), va_up (pg_A t) p (va_up (pg_A t p) (pg_n t p) (a, s, tt, v))), fun q hq => ?_, ?_⟩
  · have hq : q < (sx_i m 7).toNatClampNeg := hq
    by_cases e : q = p
    · subst e
      have v1 : ∀ {α : Type} (f : Nat → α) (z : α), va_up f q z q = z := fun f z => by simp [va_up]
      refine ⟨o1, ?_, ?_, ?_, o5, fun k hk => ?_⟩
      · show E[pg_pi t q]? = some (pg_cell (pg_ai t q) (va_up (pg_n t) q (pg_n t q + 1) q) (sx_L m 24 q) (sx_L m 25 q))
        rw [v1]; exact Ep
      · show E[pg_ai t q]? = some (fp_row (va_up (pg_f t) q _ q))
        rw [v1]; exact Ea
      · show rp (va_up (pg_A t) q _ q) (va_up (pg_n t) q _ q) q _
        rw [v1, v1]
        refine ⟨by omega, ?_, fun k hk => ?_⟩
        · show upd (sx_I m 8) q (nI (pg_n t q) + 1) q = _
          rw [rg_u, if_pos rfl, nI_1]
        · show upd (sx_I m 9) (20 * q + pg_n t q) (nI a) (20 * q + k) = _ ∧ upd (sx_I m 10) (20 * q + pg_n t q) s (20 * q + k) = _ ∧ upd (sx_I m 11) (20 * q + pg_n t q) tt (20 * q + k) = _ ∧ upd (sx_I m 12) (20 * q + pg_n t q) v (20 * q + k) = _ ∧ _
          rw [rg_u, rg_u, rg_u, rg_u]
          by_cases c : k = pg_n t q
          · subst c
            simp only [va_up, if_true]
            exact ⟨True.intro, True.intro, True.intro, True.intro, hs, hf⟩
          · have := o4c k (by omega)
            simp only [va_up, if_neg c, if_neg (show ¬ 20 * q + k = 20 * q + pg_n t q by omega)]
            exact this
      · have hk : k < va_up (pg_n t) q (pg_n t q + 1) q := hk
        rw [v1] at hk
        show va_up (pg_f t) q _ q k = some (va_up (pg_x t) q _ q k + 98) ∧ (va_up (pg_A t) q _ q k).1 < 13 ∧ E[va_up (pg_x t) q _ q k]? = some (act_cell (va_up (pg_A t) q _ q k))
        rw [v1, v1, v1]
        by_cases c : k = pg_n t q
        · subst c
          simp only [va_up, if_true]
          exact ⟨True.intro, fit_lt hf, Ex⟩
        · have := o6 k (by omega)
          simp only [va_up, if_neg c]
          exact ⟨this.1, this.2.1, Eo _ _ this.2.2 (Ne.symm (ne_of_cells o2 this.2.2 (pg_px _ _ _ _ _))) (Ne.symm (ne_of_cells o3 this.2.2 (pg_ax _ _)))⟩
    · obtain ⟨q1, q2, q3, ⟨q4a, q4b, q4c⟩, q5, q6⟩ := h1 q hq
      have ap := h2.1 q p hq hp e
      have v1 : ∀ {α : Type} (f : Nat → α) (z : α), va_up f p z q = f q := fun f z => by simp [va_up, e]
      have u1 : ∀ (f : Nat → Int32) (z : Int32) (k : Nat), k < 20 → upd f (20 * p + pg_n t p) z (20 * q + k) = f (20 * q + k) := fun f z k hk => by rw [rg_u, if_neg (by omega)]
      refine ⟨q1, ?_, ?_, ?_, q5, fun k hk => ?_⟩
      · show E[pg_pi t q]? = some (pg_cell (pg_ai t q) (va_up (pg_n t) p _ q) (sx_L m 24 q) (sx_L m 25 q))
        rw [v1]
        exact Eo _ _ q2 ap.1 (ne_of_cells q2 o3 (pg_pa _ _ _ _ _))
      · show E[pg_ai t q]? = some (fp_row (va_up (pg_f t) p _ q))
        rw [v1]
        exact Eo _ _ q3 (Ne.symm (ne_of_cells o2 q3 (pg_pa _ _ _ _ _))) ap.2
      · show rp (va_up (pg_A t) p _ q) (va_up (pg_n t) p _ q) q _
        rw [v1, v1]
        refine ⟨q4a, ?_, fun k hk => ?_⟩
        · show upd (sx_I m 8) p _ q = _
          rw [rg_u, if_neg e]; exact q4b
        · show upd (sx_I m 9) _ _ (20 * q + k) = _ ∧ upd (sx_I m 10) _ _ (20 * q + k) = _ ∧ upd (sx_I m 11) _ _ (20 * q + k) = _ ∧ upd (sx_I m 12) _ _ (20 * q + k) = _ ∧ _
          rw [u1 _ _ k (by omega), u1 _ _ k (by omega), u1 _ _ k (by omega), u1 _ _ k (by omega)]
          exact q4c k hk
      · have hk : k < va_up (pg_n t) p _ q := hk
        rw [v1] at hk
        show va_up (pg_f t) p _ q k = some (va_up (pg_x t) p _ q k + 98) ∧ (va_up (pg_A t) p _ q k).1 < 13 ∧ E[va_up (pg_x t) p _ q k]? = some (act_cell (va_up (pg_A t) p _ q k))
        rw [v1, v1, v1]
        have := q6 k hk
        exact ⟨this.1, this.2.1, Eo _ _ this.2.2 (Ne.symm (ne_of_cells o2 this.2.2 (pg_px _ _ _ _ _))) (Ne.symm (ne_of_cells o3 this.2.2 (pg_ax _ _)))⟩
  · show pg_ap (sx_i m 7).toNatClampNeg _
    refine ⟨h2.1, fun q r k l hq hr hk hl hx => ?_⟩
    have hk : k < va_up (pg_n t) p (pg_n t p + 1) q := hk
    have hl : l < va_up (pg_n t) p (pg_n t p + 1) r := hl
    have hx : va_up (pg_x t) p (va_up (pg_x t p) (pg_n t p) D.length) q k = va_up (pg_x t) p (va_up (pg_x t p) (pg_n t p) D.length) r l := hx
    have old : ∀ q k, q < (sx_i m 7).toNatClampNeg → k < va_up (pg_n t) p (pg_n t p + 1) q → ¬ (q = p ∧ k = pg_n t p) → k < pg_n t q ∧ va_up (pg_x t) p (va_up (pg_x t p) (pg_n t p) D.length) q k = pg_x t q k ∧ pg_x t q k < D.length := by
      intro q k hq hk hne
      by_cases e : q = p
      · subst e
        simp only [va_up, if_true] at hk
        have hk2 : k < pg_n t q := by omega
        refine ⟨hk2, ?_, lD ((h1 q hq).2.2.2.2.2 k hk2).2.2⟩
        simp only [va_up, if_true]
        rw [if_neg (by omega)]
      · simp only [va_up, if_neg e] at hk
        refine ⟨hk, ?_, lD ((h1 q hq).2.2.2.2.2 k hk).2.2⟩
        simp only [va_up, if_neg e]
    have new : ∀ q k, q = p ∧ k = pg_n t p → va_up (pg_x t) p (va_up (pg_x t p) (pg_n t p) D.length) q k = D.length := by
      rintro q k ⟨rfl, rfl⟩
      simp [va_up]
    by_cases c1 : q = p ∧ k = pg_n t p
    · by_cases c2 : r = p ∧ l = pg_n t p
      · exact ⟨c1.1.trans c2.1.symm, c1.2.trans c2.2.symm⟩
      · have := old r l hr hl c2
        rw [new q k c1, this.2.1] at hx
        omega
    · by_cases c2 : r = p ∧ l = pg_n t p
      · have := old q k hq hk c1
        rw [new r l c2, this.2.1] at hx
        omega
      · have a := old q k hq hk c1
        have b := old r l hr hl c2
        rw [a.2.1, b.2.1] at hx
        exact h2.2 q r k l hq hr a.1 b.1 hx
