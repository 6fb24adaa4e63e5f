/-! the programs: where they stand, and what keeps them. Own work. -/
set_option maxRecDepth 100000
/-- where programs stand: their cells, rows, acts' cells; numbers of acts; the acts -/
abbrev pgT : Type := (Nat → Nat) × (Nat → Nat) × (Nat → Nat) × (Nat → Nat → Option Nat) × (Nat → Nat → Nat) × (Nat → fp_A)
abbrev pg_pi (t : pgT) : Nat → Nat := t.1
abbrev pg_ai (t : pgT) : Nat → Nat := t.2.1
abbrev pg_n (t : pgT) : Nat → Nat := t.2.2.1
abbrev pg_f (t : pgT) : Nat → Nat → Option Nat := t.2.2.2.1
abbrev pg_x (t : pgT) : Nat → Nat → Nat := t.2.2.2.2.1
abbrev pg_A (t : pgT) : Nat → fp_A := t.2.2.2.2.2
def act_cell (a : Nat × Int32 × Int32 × Int32) : pj_E := .inr (5 + a.1, [.int (nI a.1), .int a.2.1, .int a.2.2.1, .int a.2.2.2])
def pg_cell (ai n : Nat) (cn cd : Int64) : pj_E := .inr (4, [.ref (ai + 98), .int (nI n), .long cn, .long cd])
def pg_one (c : sx_C) (m : sx_M) (D : pj_H) (t : pgT) (p : Nat) : Prop := sx_P c p = some (pg_pi t p + 98) ∧ D[pg_pi t p]? = some (pg_cell (pg_ai t p) (pg_n t p) (sx_L m 24 p) (sx_L m 25 p)) ∧ D[pg_ai t p]? = some (fp_row (pg_f t p)) ∧ rp (pg_A t p) (pg_n t p) p m ∧ rl_n (sx_L m 24 p) (sx_L m 25 p) ∧
  ∀ k, k < pg_n t p → pg_f t p k = some (pg_x t p k + 98) ∧ (pg_A t p k).1 < 13 ∧ D[pg_x t p k]? = some (act_cell (pg_A t p k))
def pg_ap (P : Nat) (t : pgT) : Prop := (∀ p q, p < P → q < P → p ≠ q → pg_pi t p ≠ pg_pi t q ∧ pg_ai t p ≠ pg_ai t q) ∧ ∀ p q k l, p < P → q < P → k < pg_n t p → l < pg_n t q → pg_x t p k = pg_x t q l → p = q ∧ k = l
def ipg (c : sx_C) (m : sx_M) (D : pj_H) : Prop := ∃ t : pgT, (∀ p, p < (sx_i m 7).toNatClampNeg → pg_one c m D t p) ∧ pg_ap (sx_i m 7).toNatClampNeg t
theorem pg_prog {c : sx_C} {m : sx_M} {D : pj_H} {t : pgT} {p : Nat} (h : pg_one c m D t p) : fp_prog D (pg_pi t p) (pg_n t p) (pg_A t p) (sx_L m 24 p) (sx_L m 25 p) :=
  ⟨h.2.2.2.1.1, pg_ai t p, pg_f t p, h.2.1, h.2.2.1, fun k hk => ⟨pg_x t p k, (h.2.2.2.2.2 k hk).1, (h.2.2.2.2.2 k hk).2.1, (h.2.2.2.2.2 k hk).2.2⟩⟩
/-- a cell that stays -/
def keeps (D E : pj_H) : Prop := ∀ (i : Nat) (x : pj_E), D[i]? = some x → E[i]? = some x
theorem keeps_app (D E : pj_H) : keeps D (D ++ E) := fun i x h => by
  rw [List.getElem?_append_left (List.getElem?_eq_some_iff.mp h).1]; exact h
/-- cells of the programs: what must stay -/
def isPg : pj_E → Prop
  | .inl q => q.1 = 7
  | .inr q => 4 ≤ q.1 ∧ q.1 ≤ 17
def keepsP (D E : pj_H) : Prop := ∀ (i : Nat) (x : pj_E), isPg x → D[i]? = some x → E[i]? = some x
theorem keeps.P {D E : pj_H} (h : keeps D E) : keepsP D E := fun i x _ q => h i x q
theorem keepsP_set {D : pj_H} {i : Nat} {x y : pj_E} (h : D[i]? = some x) (hx : ¬ isPg x) : keepsP D (D.set i y) := fun j z hz hj => by
  by_cases e : i = j
  · subst e
    rw [h] at hj
    cases hj
    exact absurd hz hx
  · rw [List.getElem?_set_ne e]; exact hj
theorem keepsP.tr {D E F : pj_H} (h : keepsP D E) (g : keepsP E F) : keepsP D F := fun i x hx q => g i x hx (h i x hx q)
theorem keepsP.refl (D : pj_H) : keepsP D D := fun _ _ _ q => q
theorem pg_one.keep {c x : sx_C} {m y : sx_M} {D E : pj_H} {t : pgT} {p : Nat} (h : pg_one c m D t p) (hD : keepsP D E) (hP : sx_P x p = sx_P c p) (hI : ∀ i, 8 ≤ i → i ≤ 12 → sx_I y i = sx_I m i) (hL : sx_L y 24 p = sx_L m 24 p ∧ sx_L y 25 p = sx_L m 25 p) : pg_one x y E t p := by
  obtain ⟨h1, h2, h3, h4, h5, h6⟩ := h
  refine ⟨by rw [hP]; exact h1, by rw [hL.1, hL.2]; exact hD _ _ (show 4 ≤ 4 ∧ 4 ≤ 17 by omega) h2, hD _ _ rfl h3, ?_, by rw [hL.1, hL.2]; exact h5, fun k hk => ⟨(h6 k hk).1, (h6 k hk).2.1, hD _ _ (show 4 ≤ 5 + (pg_A t p k).1 ∧ 5 + (pg_A t p k).1 ≤ 17 by have := (h6 k hk).2.1; omega) (h6 k hk).2.2⟩⟩
  unfold rp
  rw [hI 8 (by omega) (by omega), hI 9 (by omega) (by omega), hI 10 (by omega) (by omega), hI 11 (by omega) (by omega), hI 12 (by omega) (by omega)]
  exact h4
/-- nothing of the programs changes -/
theorem ipg.keep {c x : sx_C} {m y : sx_M} {D E : pj_H} (h : ipg c m D) (hD : keepsP D E) (hP : sx_P x = sx_P c) (hI : ∀ i, 8 ≤ i → i ≤ 12 → sx_I y i = sx_I m i) (h7 : sx_i y 7 = sx_i m 7) (h75 : vp_in (sx_i m 7) 5) (hL : ∀ p, p < 4 → sx_L y 24 p = sx_L m 24 p ∧ sx_L y 25 p = sx_L m 25 p) : ipg x y E := by
  obtain ⟨t, h1, h2⟩ := h
  have := vp_lt h75
  refine ⟨t, fun p hp => ?_, by rw [h7]; exact h2⟩
  rw [h7] at hp
  exact (h1 p hp).keep hD (by rw [hP]) hI (hL p (by omega))
theorem ipg.pf {c x : sx_C} {m y : sx_M} {D : pj_H} (h : ipg c m D) (hv : iv c m) (hf : pf m y) (hP : sx_P x = sx_P c) : ipg x y D :=
  h.keep (keepsP.refl D) hP hf.1 hf.2.2.2 hv.2.2.2.1 fun p _ => by rw [hf.2.1, hf.2.2.1]; exact ⟨rfl, rfl⟩
theorem ipg.none {c : sx_C} {m : sx_M} {D : pj_H} (h : sx_i m 7 = 0) : ipg c m D := by
  refine ⟨((fun _ => 0), (fun _ => 0), (fun _ => 0), (fun _ _ => Option.none), (fun _ _ => 0), (fun _ _ => (0, 0, 0, 0))), ?_, ?_, ?_⟩
  · intro p hp; rw [h] at hp; exact absurd hp (Nat.not_lt_zero _)
  · intro p q hp; rw [h] at hp; exact absurd hp (Nat.not_lt_zero _)
  · intro p q k l hp; rw [h] at hp; exact absurd hp (Nat.not_lt_zero _)
/-- what trying leaves of them -/
theorem ipg.tq {c x : sx_C} {m y : sx_M} {D : pj_H} (h : ipg c m D) (hv : iv c m) (hc : x.2.2 = c.2.2) (hf : tf m y) : ipg x y D :=
  h.keep (keepsP.refl D) (by show x.2.2.1 = c.2.2.1; rw [hc]) (fun i a b => hf.2.1 i (by omega) (by omega) (by omega)) (hf.1 7 (by decide) (by decide) (by decide) (by decide) (by decide) (by decide)) hv.2.2.2.1 fun p hp => hf.2.2.2.2.2.2.2 p hp
theorem iv.tq {c x : sx_C} {m y : sx_M} (h : iv c m) (hq : tq c m x y) : iv x y := by
  obtain ⟨w, ⟨nl, hnl, hl⟩, h3, h4, h5, h6, h7, h8, h9, h10, h11, h12, h13⟩ := h
  obtain ⟨⟨t1, t2, t3, t4, t5⟩, ⟨f1, f2, f3, f4, f5, f6, f7, f8⟩, hw⟩ := hq
  have fi : ∀ i, i = 3 ∨ i = 7 ∨ i = 13 ∨ i = 14 ∨ i = 15 → sx_i y i = sx_i m i := fun i hi => f1 i (by omega) (by omega) (by omega) (by omega) (by omega) (by omega)
  refine ⟨hw, ⟨nl, hnl, ln_t hl t1 ⟨f1, f2, f3, f4, f5, f6, f7, f8⟩⟩, ?_, ?_, fun k hk => ?_, ?_, ?_, ?_, f4, ⟨fun k hk => ?_, fun k hk => ?_, fun k hk => ?_, fun k hk => ?_, fun k hk => ?_⟩, ?_, t4, t5⟩
  · rw [t1.1, fi 7 (by omega)]; exact h3
  · rw [fi 7 (by omega)]; exact h4
  · rw [t1.2.2 8 (by decide) (by decide), f6 23 k (by omega) hk]; exact h5 k hk
  · rw [t1.1, fi 13 (by omega)]; exact h6
  · rw [t1.1, fi 14 (by omega)]; exact h7
  · rw [t1.1, fi 15 (by omega)]; exact h8
  · rw [t2, f6 19 (8 * 0 + k) (by omega) (by omega)]; exact h10.1 k hk
  · rw [t2, f6 20 (8 * 0 + k) (by omega) (by omega)]; exact h10.2.1 k hk
  · rw [t2, f3 (8 * 0 + k) (by omega)]; exact h10.2.2.1 k hk
  · rw [t2, f6 21 (8 * 0 + k) (by omega) (by omega)]; exact h10.2.2.2.1 k hk
  · rw [t2, f7 (12 * 0 + k) (by omega)]; exact h10.2.2.2.2 k hk
  · rw [t2]; exact h11
theorem tf.af {m x : sx_M} (h : tf m x) : af m x := ⟨fun i a b => h.2.1 i (by omega) (by omega) (by omega), fun i a => h.2.2.2.2.1 i (by omega) (by omega) (by omega) (by omega)⟩
/-- a new program -/
theorem pr_new {c : sx_C} {m : sx_M} {D : pj_H} (h : ipg c m D) (hv : iv c m) (h4 : ¬ sx_i m 7 = 4) : iv (fp_prC c D) (fm_program m).2 ∧ ipg (fp_prC c D) (fm_program m).2 (fp_prD D) ∧ keeps D (fp_prD D) ∧ sx_i c.1 7 + 1 - 1 = (fm_program m).1 ∧ af m (fm_program m).2 := by
  obtain ⟨t, h1, h2⟩ := h
  obtain ⟨w, hl, h3, h5, hr⟩ := hv
  obtain ⟨P, hP, eP⟩ := vp_in_of h5 (by decide)
  have hP4 : P < 4 := by
    have : P ≠ 4 := fun z => h4 (by rw [eP, z]; rfl)
    omega
  have cP : (sx_i m 7).toNatClampNeg = P := by rw [eP, rl_c (by omega)]
  rw [cP] at h1 h2
  have E7 : sx_i c.1 7 = nI P := by rw [h3, eP]
  have EM : fm_program m = (nI P, sx_si (sx_sL (sx_sL (sx_sI m 8 (upd (sx_I m 8) P 0)) 24 (vp_updL (sx_L m 24) P 0)) 25 (vp_updL (sx_L m 25) P 1)) 7 (nI (P + 1))) := by
    unfold fm_program
    rw [if_neg h4, cP, eP, nI_1, show nI (P + 1) - 1 = nI P from by rw [show (1 : Int32) = nI 1 from rfl, pk_sub (by omega)]; congr 1]
  have EC : fp_prC c D = sx_sM (sx_sP c (va_up (sx_P c) P (some (D.length + 98)))) (sx_si c.1 7 (nI (P + 1))) := by
    unfold fp_prC
    rw [E7, rl_c (show P < 100000 by omega), nI_1]
  have KD : keeps D (fp_prD D) ∧ (fp_prD D)[D.length]? = some (pg_cell (D.length + 1) 0 0 1) ∧ (fp_prD D)[D.length + 1]? = some (fp_row (fun _ => none)) := by
    unfold fp_prD fp_new
    rw [show (D ++ [Sum.inr (4, [Value.null, Value.int 0, Value.long 0, Value.long 0])] : pj_H).length = D.length + 1 by simp]
    refine ⟨fun i x hi => ?_, ?_, ?_⟩
    · have li := (List.getElem?_eq_some_iff.mp hi).1
      rw [List.getElem?_set_ne (by omega), List.getElem?_set_ne (by omega), List.getElem?_append_left (by simp; omega), List.getElem?_append_left li]
      exact hi
    · rw [List.getElem?_set_self (by simp)]
      rfl
    · rw [List.getElem?_set_ne (by omega), List.getElem?_set_ne (by omega), List.getElem?_append_right (by simp)]
      simp [fp_row0, fp_row]
  obtain ⟨K1, K2, K3⟩ := KD
  rw [EM, EC]
  refine ⟨?_, ?_, K1, ?_, ⟨fun i a b => ?_, fun i a => ?_⟩⟩
  · obtain ⟨nl, hnl, l1, l2, l3, l4⟩ := hl
    obtain ⟨r1, r2, r3, r4, r5, r6, r7, r8, r9⟩ := hr
    exact ⟨w, ⟨nl, hnl, l1, l2, l3, l4⟩, rfl, vp_in_nI (n := P + 1) (by omega) (by decide), r1, r2, r3, r4, r5, r6, r7, r8, r9⟩
  · refine ⟨(va_up (pg_pi t) P D.length, va_up (pg_ai t) P (D.length + 1), va_up (pg_n t) P 0, va_up (pg_f t) P (fun _ => none), pg_x t, va_up (pg_A t) P (fun _ => (0, 0, 0, 0))), ?_, ?_⟩
    · show ∀ p, p < (nI (P + 1)).toNatClampNeg → _
      rw [rl_c (show P + 1 < 100000 by omega)]
      intro p hp
      by_cases e : p = P
      · subst e
        refine ⟨?_, ?_, ?_, ⟨?_, ?_, ?_⟩, ?_, ?_⟩
        · show va_up (sx_P c) p (some (D.length + 98)) p = some (va_up (pg_pi t) p D.length p + 98)
          simp [va_up]
        · show (fp_prD D)[va_up (pg_pi t) p D.length p]? = some (pg_cell (va_up (pg_ai t) p (D.length + 1) p) (va_up (pg_n t) p 0 p) (vp_updL (sx_L m 24) p 0 p) (vp_updL (sx_L m 25) p 1 p))
          simp only [va_up, if_pos, rg_uL]
          exact K2
        · show (fp_prD D)[va_up (pg_ai t) p (D.length + 1) p]? = some (fp_row (va_up (pg_f t) p (fun _ => none) p))
          simp only [va_up, if_pos]
          exact K3
        · show va_up (pg_n t) p 0 p ≤ 20
          simp [va_up]
        · show upd (sx_I m 8) p 0 p = nI (va_up (pg_n t) p 0 p)
          simp only [va_up, if_pos, rg_u]
          rfl
        · intro k hk
          have hk : k < va_up (pg_n t) p 0 p := hk
          simp [va_up] at hk
        · show rl_n (vp_updL (sx_L m 24) p 0 p) (vp_updL (sx_L m 25) p 1 p)
          rw [rg_uL, rg_uL, if_pos rfl, if_pos rfl]
          exact ⟨Nat.zero_le _, by decide, by decide, by decide⟩
        · intro k hk
          have hk : k < va_up (pg_n t) p 0 p := hk
          simp [va_up] at hk
      · have hpP : p < P := by omega
        have q := h1 p hpP
        obtain ⟨q1, q2, q3, q4, q5, q6⟩ := q.keep (x := c) (y := m) K1.P rfl (fun _ _ _ => rfl) ⟨rfl, rfl⟩
        have v1 : ∀ {α : Type} (f : Nat → α) (z : α), va_up f P z p = f p := fun f z => by simp [va_up, e]
        refine ⟨?_, ?_, ?_, ?_, ?_, ?_⟩
        · show va_up (sx_P c) P _ p = some (va_up (pg_pi t) P _ p + 98)
          rw [v1, v1]; exact q1
        · show (fp_prD D)[va_up (pg_pi t) P _ p]? = some (pg_cell (va_up (pg_ai t) P _ p) (va_up (pg_n t) P _ p) (vp_updL (sx_L m 24) P 0 p) (vp_updL (sx_L m 25) P 1 p))
          rw [v1, v1, v1, rg_uL, rg_uL, if_neg e, if_neg e]; exact q2
        · show (fp_prD D)[va_up (pg_ai t) P _ p]? = some (fp_row (va_up (pg_f t) P _ p))
          rw [v1, v1]; exact q3
        · show rp (va_up (pg_A t) P _ p) (va_up (pg_n t) P _ p) p _
          rw [v1, v1]
          obtain ⟨a1, a2, a3⟩ := q4
          refine ⟨a1, ?_, a3⟩
          show upd (sx_I m 8) P 0 p = _
          rw [rg_u, if_neg e]; exact a2
        · show rl_n (vp_updL (sx_L m 24) P 0 p) (vp_updL (sx_L m 25) P 1 p)
          rw [rg_uL, rg_uL, if_neg e, if_neg e]; exact q5
        · intro k hk
          have hk : k < va_up (pg_n t) P 0 p := hk
          rw [v1] at hk
          show va_up (pg_f t) P _ p k = _ ∧ (va_up (pg_A t) P _ p k).1 < 13 ∧ (fp_prD D)[pg_x t p k]? = some (act_cell (va_up (pg_A t) P _ p k))
          rw [v1, v1]; exact q6 k hk
    · show pg_ap (nI (P + 1)).toNatClampNeg _
      rw [rl_c (show P + 1 < 100000 by omega)]
      have lt1 : ∀ q, q < P → pg_pi t q < D.length ∧ pg_ai t q < D.length := fun q hq => ⟨(List.getElem?_eq_some_iff.mp (h1 q hq).2.1).1, (List.getElem?_eq_some_iff.mp (h1 q hq).2.2.1).1⟩
      refine ⟨fun p q hp hq hne => ?_, fun p q k l hp hq hk hl hx => ?_⟩
      · show va_up (pg_pi t) P D.length p ≠ va_up (pg_pi t) P D.length q ∧ va_up (pg_ai t) P (D.length + 1) p ≠ va_up (pg_ai t) P (D.length + 1) q
        simp only [va_up]
        by_cases e1 : p = P
        · have hq2 : q < P := by omega
          have := lt1 q hq2
          rw [if_pos e1, if_pos e1, if_neg (by omega), if_neg (by omega)]
          omega
        · have := lt1 p (by omega)
          rw [if_neg e1, if_neg e1]
          by_cases e2 : q = P
          · rw [if_pos e2, if_pos e2]; omega
          · rw [if_neg e2, if_neg e2]; exact h2.1 p q (by omega) (by omega) hne
      · have hk : k < va_up (pg_n t) P 0 p := hk
        have hl : l < va_up (pg_n t) P 0 q := hl
        simp only [va_up] at hk hl
        by_cases e1 : p = P
        · rw [if_pos e1] at hk; omega
        · rw [if_neg e1] at hk
          by_cases e2 : q = P
          · rw [if_pos e2] at hl; omega
          · rw [if_neg e2] at hl
            exact h2.2 p q k l (by omega) (by omega) hk hl hx
  · rw [E7, nI_1, show nI (P + 1) - 1 = nI P from by rw [show (1 : Int32) = nI 1 from rfl, pk_sub (by omega)]; congr 1]
  · show (if i = 8 then _ else sx_I m i) = _
    rw [if_neg (by omega)]
  · show (if i = 25 then _ else if i = 24 then _ else sx_L m i) = _
    rw [if_neg (by omega), if_neg (by omega)]
