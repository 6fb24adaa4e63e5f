/-! PennyJudgeModel: does (by tools/gen_m11.py) -/
set_option maxRecDepth 100000
theorem vp4_zero {r : Int32} (h1 : vp_in r 4) (hr : ¬ 2 ≤ r) (hq : ¬ r = 1) : r = 0 := by
  obtain ⟨j, hj, rfl⟩ := vp_in_of h1 (by decide)
  match j, hj with
  | 0, _ => rfl
  | 1, _ => exact absurd rfl hq
  | 2, _ => exact absurd (by decide) hr
  | 3, _ => exact absurd (by decide) hr
def fm_splits (m : sx_M) (x : Int64) (rule set : Int32) : sx_M := if 2 ≤ rule then fm_splitsB m x rule set else if rule = 1 then (fm_splits1 m x set).2 else (fm_splits0 m x set).2
/-- what a split asks of the model -/
def fm_splitOk (m : sx_M) (x : Int64) (rule set : Int32) : Prop := vp_in rule 4 ∧ vp_in set 4 ∧ vp_in (sx_I m 5 set.toNatClampNeg) 9 ∧ ¬ fm_allW m set = 0 ∧ vp_in (fm_spF m rule set) 8 ∧ (fm_splits1 m x set).1 ≤ 0 ∧ (fm_splits0 m x set).1 ≤ 0
theorem c_X4_splits {G : pj_G} {d : Nat} {c : sx_C} {m : sx_M} {o : Nat → Int64} {D : pj_H} (x : Int64) (rule set : Int32) (hb : sx_i m 16 = 0 ∨ sx_i m 16 = 1) (h : fm_splitOk m x rule set) : pj_Rt G mX4_splits (d + 3) [.ref 59, .long x, .int rule, .int set] (sx_mk c m o D) 0 0 none (sx_mk c (fm_splits m x rule set) o D) := by
  obtain ⟨h1, h2, h3, h4, h5, h6, h7⟩ := h
  unfold fm_splits
  by_cases hr : 2 ≤ rule
  · rw [if_pos hr]
    exact c_X4_splitsB x rule set hb h2 h3 h4 hr h5
  · rw [if_neg hr]
    by_cases hq : rule = 1
    · rw [if_pos hq]
      subst hq
      exact c_X4_splits1 x set hb h2 h3 h4 h6
    · rw [if_neg hq]
      have hz : rule = 0 := vp4_zero h1 hr hq
      subst hz
      exact c_X4_splits0 x set hb h2 h3 h4 h7
def fm_sumB (m : sx_M) (k : Nat) (s : Int64) : Int64 := s + (sx_I m 18 (nI k).toNatClampNeg).toInt64
def fm_sum (m : sx_M) : Int64 := it_up (fm_sumB m) (sx_i m 17).toNatClampNeg 0 0
def fm_splitD (m : sx_M) (ix : Nat) (v : Int32) : sx_M := sx_si (sx_sl (sx_si (sx_si m 27 1) 28 (sx_I m 26 ix)) 29 (sx_L m 19 ix)) 30 v
def fm_roundN (m : sx_M) (ix : Nat) (t v : Int32) : Int64 := v.toInt64 * fm_times (sx_L m 19 ix) (sx_L m 20 ix * v.toInt64) t
def fm_showN (m : sx_M) (t v : Int32) : Int64 := fm_times (sx_L m 19 (8 * sx_i m 16 + t).toNatClampNeg) (sx_L m 20 (8 * sx_i m 16 + t).toNatClampNeg) v
/-- one act: its kind k, slot s, t, v -/
def fm_doesK (m : sx_M) (p k s t v : Int32) : sx_M :=
  if k = 0 then fm_plain m s (fm_sum m) else if k = 1 then fm_taxes m s t v 0 else if k = 2 then fm_taxes m s t v 1 else if k = 3 then fm_rates m s t v
  else if k = 4 then (fm_becomes m s (fm_roundN m (8 * sx_i m 16 + s).toNatClampNeg t v) 1).2 else if k = 5 then fm_adds m s t v
  else if k = 6 then (if sx_L m 20 (8 * sx_i m 16 + s).toNatClampNeg = 1 then fm_splitD (fm_splits m (sx_L m 19 (8 * sx_i m 16 + s).toNatClampNeg) t v) (8 * sx_i m 16 + s).toNatClampNeg v else fm_bad m (-5))
  else if k = 7 then (if (fm_becomes m s (fm_pt m t) 1).1 = 0 then (fm_becomes m s (fm_pt m t) 1).2 else fm_showA (fm_becomes m s (fm_pt m t) 1).2 (8 * sx_i m 16 + s).toNatClampNeg (sx_i (fm_becomes m s (fm_pt m t) 1).2 28))
  else if k = 8 then fm_carries m s p else if k = 9 then fm_caps m s t v.toInt64 else if k = 10 then fm_books m s t v
  else if k = 11 then (if (fm_becomes m s (fm_showN m t v) 1).1 = 0 then (fm_becomes m s (fm_showN m t v) 1).2 else fm_showA (fm_becomes m s (fm_showN m t v) 1).2 (8 * sx_i m 16 + s).toNatClampNeg 1)
  else fm_daysL s t v.toNatClampNeg m
def fm_lo (n : Int64) : Prop := -9223372036854775807 ≤ n
/-- what an act asks of the model -/
def fm_doesOk (m : sx_M) (p k s t v : Int32) : Prop := (sx_i m 16 = 0 ∨ sx_i m 16 = 1) ∧ vp_in s 8 ∧ vp_in (sx_i m 17) 13 ∧ (∀ i, i < 16 → sx_I m 26 i = 0 ∨ sx_I m 26 i = 1) ∧
  (k = 0 → fm_lo (fm_sum m)) ∧ (k = 1 → vp_in t 8 ∧ ¬ (sx_I m 2 t.toNatClampNeg).toInt64 = 0 ∧ fm_lo (fm_txZ m t v 0).1) ∧ (k = 2 → vp_in t 8 ∧ ¬ (sx_I m 2 t.toNatClampNeg).toInt64 = 0 ∧ fm_lo (fm_txZ m t v 1).1) ∧
  (k = 3 → vp_in t 8 ∧ vp_in v 8 ∧ fm_lo (sx_L m 19 (8 * sx_i m 16 + t).toNatClampNeg * (sx_I m 1 v.toNatClampNeg).toInt64) ∧ 0 < sx_L m 20 (8 * sx_i m 16 + t).toNatClampNeg * (sx_I m 2 v.toNatClampNeg).toInt64) ∧
  (k = 4 → ¬ sx_L m 20 (8 * sx_i m 16 + s).toNatClampNeg * v.toInt64 = 0 ∧ fm_lo (fm_roundN m (8 * sx_i m 16 + s).toNatClampNeg t v)) ∧
  (k = 5 → vp_in t 8 ∧ fm_lo (fm_addsN m s t v) ∧ 0 < fm_addsD m s t) ∧
  (k = 6 → sx_L m 20 (8 * sx_i m 16 + s).toNatClampNeg = 1 → fm_splitOk m (sx_L m 19 (8 * sx_i m 16 + s).toNatClampNeg) t v ∧ sx_I (fm_splits m (sx_L m 19 (8 * sx_i m 16 + s).toNatClampNeg) t v) 26 = sx_I m 26 ∧ sx_i (fm_splits m (sx_L m 19 (8 * sx_i m 16 + s).toNatClampNeg) t v) 16 = sx_i m 16) ∧
  (k = 7 → vp_in t 8 ∧ fm_lo (fm_pt m t)) ∧
  (k = 8 → vp_in (4 * sx_i m 16 + p) 8 ∧ fm_lo (fm_crN m s p) ∧ 0 < fm_crD m s p ∧ 0 < fm_crL m s p ∧ fm_lo (fm_crW m s p) ∧ fm_lo (fm_crR m s p)) ∧
  (k = 10 → vp_in t 8) ∧ (k = 11 → vp_in t 8 ∧ ¬ sx_L m 20 (8 * sx_i m 16 + t).toNatClampNeg = 0 ∧ fm_lo (fm_showN m t v)) ∧
  (k = 12 → vp_in t 8 ∧ vp_in v 31 ∧ ∃ inv : sx_M → Prop, inv m ∧ ∀ m', inv m' → sx_i m' 16 = sx_i m 16 ∧ (sx_i m' 32 = 0 → fm_dayOk m' s t ∧ inv (fm_day m' s t)))
theorem c_X4_does {G : pj_G} {d : Nat} {c : sx_C} {m : sx_M} {o : Nat → Int64} {D : pj_H} (p at_ k s t v : Int32) (hat : vp_in at_ 80) (ek : sx_I m 9 at_.toNatClampNeg = k) (es : sx_I m 10 at_.toNatClampNeg = s) (et : sx_I m 11 at_.toNatClampNeg = t) (ev : sx_I m 12 at_.toNatClampNeg = v) (hk13 : vp_in k 13) (hO : fm_doesOk m p k s t v) : pj_Rt G mX4_does (d + 5) [.ref 59, .int p, .int at_] (sx_mk c m o D) 0 0 none (sx_mk c (fm_doesK m p k s t v) o D) := by
  refine pj_Cn.start ?_
  obtain ⟨hb, hs, hm17, hsh, o0, o1, o2, o3, o4, o5, o6, o7, o8, o10, o11, o12⟩ := hO
  have hA : vp_in (8 * sx_i m 16 + s) 16 := vp_in_b8 hb hs
  refine pj_J.go (oX4_does G) 22 rfl ⟨by exact hat, by exact hat, by exact hat, trivial⟩ ?_
  rw [es, et, ev]
  refine pj_J.go (oX4_does G) 4 rfl ⟨by exact hat, trivial⟩ ?_
  rw [ek]
  refine pj_J.go (oX4_does G) 1 rfl trivial ?_
  refine pj_J.swc (fun hs0 => ?_) (fun hs0 => ?_)
  · skip
    refine pj_J.go (oX4_does G) 4 rfl trivial ?_
    obtain ⟨n, hn13, e⟩ := vp_in_of hm17 (by decide)
    have ep : (sx_i m 17).toNatClampNeg = n := by rw [e, nI_clamp (by omega)]
    refine pj_for (fun k9 (z : Int64) => pj_J G mX4_does (d + 5) 110 [some (.ref 59), some (.int p), some (.int at_), some (.int s), some (.int t), some (.int v), some (.int (8 * sx_i m 16 + s)), some (.long z), none, some (.int (nI k9))] [] (sx_mk c m o D) 0 0 _) (fm_sumB m) (fun _ _ => True) n (fun k9 z hk hi => ⟨trivial, fun kk => ?_⟩) n 0 (0 : Int64) (by simp) trivial (fun hi => ?_)
    · rw [← nI_add1] at kk
      refine pj_J.go (oX4_does G) 4 rfl trivial ?_
      refine pj_J.neg (by rw [e]; exact nI_lt_lit hk (by omega)) ?_
      refine pj_J.go (oX4_does G) 10 rfl ⟨by exact vp_in_lit (by omega), trivial⟩ ?_
      exact kk
    · skip
      refine pj_J.go (oX4_does G) 4 rfl trivial ?_
      refine pj_J.pos (by rw [e]; exact nI_ge_lit (Nat.le_refl n) (by omega)) ?_
      refine pj_J.go (oX4_does G) 3 rfl trivial ?_
      refine pj_J.cal0 kX4_does_142 (c_X4_plain (m := m) (c := c) (o := o) (D := D) s (it_up (fm_sumB m) n 0 0) hA (by have q := o0 hs0; unfold fm_sum at q; rw [ep] at q; exact q)) ⟨_, _, _, rfl, rfl⟩ pj_le0 pj_le0 pj_le0 ?_
      refine pj_J.go (oX4_does G) 1 rfl trivial ?_
      refine pj_vret dX4_does_442 rfl ?_
      show _ = _ ∧ _ = _
      unfold fm_doesK fm_sum
      rw [if_pos hs0, ep]
      exact ⟨rfl, rfl⟩
  refine pj_J.swc (fun hs1 => ?_) (fun hs1 => ?_)
  · skip
    refine pj_J.go (oX4_does G) 10 rfl ⟨by exact hat, trivial⟩ ?_
    refine pj_J.neg (by rw [ek, hs1]; decide) ?_
    refine pj_J.go (oX4_does G) 1 rfl trivial ?_
    refine pj_J.cal0 kX4_does_169 (c_X4_taxes0 (m := m) s t v hb hs (o1 hs1).1 hm17 (o1 hs1).2.1 (o1 hs1).2.2) ⟨_, _, _, rfl, rfl⟩ pj_le0 pj_le0 pj_le0 ?_
    refine pj_J.go (oX4_does G) 1 rfl trivial ?_
    refine pj_vret dX4_does_442 rfl ?_
    show _ = _ ∧ _ = _
    unfold fm_doesK
    rw [if_neg hs0, if_pos hs1]
    first
      | exact ⟨rfl, rfl⟩
      | (rw [ejc]; exact ⟨rfl, rfl⟩)
  refine pj_J.swc (fun hs2 => ?_) (fun hs2 => ?_)
  · skip
    refine pj_J.go (oX4_does G) 10 rfl ⟨by exact hat, trivial⟩ ?_
    refine pj_J.pos (ek.trans hs2) ?_
    refine pj_J.go (oX4_does G) 2 rfl trivial ?_
    refine pj_J.cal0 kX4_does_169 (c_X4_taxes1 (m := m) s t v hb hs (o2 hs2).1 hm17 (o2 hs2).2.1 (o2 hs2).2.2) ⟨_, _, _, rfl, rfl⟩ pj_le0 pj_le0 pj_le0 ?_
    refine pj_J.go (oX4_does G) 1 rfl trivial ?_
    refine pj_vret dX4_does_442 rfl ?_
    show _ = _ ∧ _ = _
    unfold fm_doesK
    rw [if_neg hs0, if_neg hs1, if_pos hs2]
    first
      | exact ⟨rfl, rfl⟩
      | (rw [ejc]; exact ⟨rfl, rfl⟩)
  refine pj_J.swc (fun hs3 => ?_) (fun hs3 => ?_)
  · skip
    refine pj_J.go (oX4_does G) 4 rfl trivial ?_
    refine pj_J.cal0 kX4_does_181 (c_X4_rates (m := m) s t v hA (vp_in_b8 hb (o3 hs3).1) (o3 hs3).2.1 (o3 hs3).2.2.1 (o3 hs3).2.2.2) ⟨_, _, _, rfl, rfl⟩ pj_le0 pj_le0 pj_le0 ?_
    refine pj_J.go (oX4_does G) 1 rfl trivial ?_
    refine pj_vret dX4_does_442 rfl ?_
    show _ = _ ∧ _ = _
    unfold fm_doesK
    rw [if_neg hs0, if_neg hs1, if_neg hs2, if_pos hs3]
    first
      | exact ⟨rfl, rfl⟩
      | (rw [ejc]; exact ⟨rfl, rfl⟩)
  refine pj_J.swc (fun hs4 => ?_) (fun hs4 => ?_)
  · skip
    refine pj_J.go (oX4_does G) 16 rfl ⟨by exact hA, by exact hA, trivial⟩ ?_
    refine pj_J.cal0 kX4_does_212 (c_X4_times _ _ _ (o4 hs4).1) trivial pj_le0 pj_le0 pj_le0 ?_
    refine pj_J.go (oX4_does G) 1 rfl trivial ?_
    refine pj_J.cal0 kX4_does_216 (c_X4_becomesWhole (m := m) s (fm_roundN m (8 * sx_i m 16 + s).toNatClampNeg t v) hA (o4 hs4).2) ⟨_, _, _, rfl, rfl⟩ pj_le0 pj_le0 pj_le0 ?_
    refine pj_J.go (oX4_does G) 2 rfl trivial ?_
    refine pj_vret dX4_does_442 rfl ?_
    show _ = _ ∧ _ = _
    unfold fm_doesK
    rw [if_neg hs0, if_neg hs1, if_neg hs2, if_neg hs3, if_pos hs4]
    first
      | exact ⟨rfl, rfl⟩
      | (rw [ejc]; exact ⟨rfl, rfl⟩)
  refine pj_J.swc (fun hs5 => ?_) (fun hs5 => ?_)
  · skip
    refine pj_J.go (oX4_does G) 4 rfl trivial ?_
    refine pj_J.cal0 kX4_does_230 (c_X4_adds (m := m) s t v hA (vp_in_b8 hb (o5 hs5).1) (o5 hs5).2.1 (o5 hs5).2.2) ⟨_, _, _, rfl, rfl⟩ pj_le0 pj_le0 pj_le0 ?_
    refine pj_J.go (oX4_does G) 1 rfl trivial ?_
    refine pj_vret dX4_does_442 rfl ?_
    show _ = _ ∧ _ = _
    unfold fm_doesK
    rw [if_neg hs0, if_neg hs1, if_neg hs2, if_neg hs3, if_neg hs4, if_pos hs5]
    first
      | exact ⟨rfl, rfl⟩
      | (rw [ejc]; exact ⟨rfl, rfl⟩)
  refine pj_J.swc (fun hs6 => ?_) (fun hs6 => ?_)
  · skip
    refine pj_J.go (oX4_does G) 7 rfl ⟨by exact hA, trivial⟩ ?_
    refine pj_J.ite (fun hc245 => ?_) (fun hc245 => ?_)
    · simp only [pj_lc_eq] at hc245
      refine pj_J.go (oX4_does G) 7 rfl ⟨by exact hA, trivial⟩ ?_
      refine pj_J.cal0 kX4_does_269 (c_X4_splits (m := m) _ t v hb (o6 hs6 hc245).1) ⟨_, _, _, rfl, rfl⟩ pj_le0 pj_le0 pj_le0 ?_
      refine pj_J.go (oX4_does G) 19 rfl ⟨by exact Or.inr rfl, by exact hA, by rw [(o6 hs6 hc245).2.1]; exact hsh _ (vp_lt hA), by exact hA, trivial⟩ ?_
      refine pj_vret dX4_does_442 rfl ?_
      show _ = _ ∧ _ = _
      unfold fm_doesK
      rw [if_neg hs0, if_neg hs1, if_neg hs2, if_neg hs3, if_neg hs4, if_neg hs5, if_pos hs6, if_pos hc245]
      first
        | exact ⟨rfl, rfl⟩
        | (rw [ejc]; exact ⟨rfl, rfl⟩)
    · simp only [pj_lc_eq] at hc245
      refine pj_J.go (oX4_does G) 4 rfl trivial ?_
      refine pj_vret dX4_does_442 rfl ?_
      show _ = _ ∧ _ = _
      unfold fm_doesK
      rw [if_neg hs0, if_neg hs1, if_neg hs2, if_neg hs3, if_neg hs4, if_neg hs5, if_pos hs6, if_neg hc245]
      first
        | exact ⟨rfl, rfl⟩
        | (rw [ejc]; exact ⟨rfl, rfl⟩)
  refine pj_J.swc (fun hs7 => ?_) (fun hs7 => ?_)
  · skip
    refine pj_J.go (oX4_does G) 11 rfl ⟨by exact vp_in_b8 hb (o7 hs7).1, trivial⟩ ?_
    refine pj_J.cal0 kX4_does_325 (c_X4_becomesWhole (m := m) s (fm_pt m t) hA (o7 hs7).2) ⟨_, _, _, rfl, rfl⟩ pj_le0 pj_le0 pj_le0 ?_
    refine pj_J.go (oX4_does G) 1 rfl trivial ?_
    refine pj_J.ite (fun hc328 => ?_) (fun hc328 => ?_)
    · skip
      refine pj_vret dX4_does_442 rfl ?_
      show _ = _ ∧ _ = _
      unfold fm_doesK
      rw [if_neg hs0, if_neg hs1, if_neg hs2, if_neg hs3, if_neg hs4, if_neg hs5, if_neg hs6, if_pos hs7, if_pos hc328]
      first
        | exact ⟨rfl, rfl⟩
        | (rw [ejc]; exact ⟨rfl, rfl⟩)
    · skip
      refine pj_J.go (oX4_does G) 7 rfl ⟨by exact hA, trivial⟩ ?_
      refine pj_vret dX4_does_442 rfl ?_
      show _ = _ ∧ _ = _
      unfold fm_doesK
      rw [if_neg hs0, if_neg hs1, if_neg hs2, if_neg hs3, if_neg hs4, if_neg hs5, if_neg hs6, if_pos hs7, if_neg hc328]
      first
        | exact ⟨rfl, rfl⟩
        | (rw [ejc]; exact ⟨rfl, rfl⟩)
  refine pj_J.swc (fun hs8 => ?_) (fun hs8 => ?_)
  · skip
    refine pj_J.go (oX4_does G) 3 rfl trivial ?_
    refine pj_J.cal0 kX4_does_348 (c_X4_carries (m := m) s p hA (o8 hs8).1 (o8 hs8).2.1 (o8 hs8).2.2.1 (o8 hs8).2.2.2.1 (o8 hs8).2.2.2.2.1 (o8 hs8).2.2.2.2.2) ⟨_, _, _, rfl, rfl⟩ pj_le0 pj_le0 pj_le0 ?_
    refine pj_J.go (oX4_does G) 1 rfl trivial ?_
    refine pj_vret dX4_does_442 rfl ?_
    show _ = _ ∧ _ = _
    unfold fm_doesK
    rw [if_neg hs0, if_neg hs1, if_neg hs2, if_neg hs3, if_neg hs4, if_neg hs5, if_neg hs6, if_neg hs7, if_pos hs8]
    first
      | exact ⟨rfl, rfl⟩
      | (rw [ejc]; exact ⟨rfl, rfl⟩)
  refine pj_J.swc (fun hs9 => ?_) (fun hs9 => ?_)
  · skip
    refine pj_J.go (oX4_does G) 5 rfl trivial ?_
    refine pj_J.cal0 kX4_does_361 (c_X4_caps (m := m) s t v.toInt64 hA) ⟨_, _, _, rfl, rfl⟩ pj_le0 pj_le0 pj_le0 ?_
    refine pj_J.go (oX4_does G) 1 rfl trivial ?_
    refine pj_vret dX4_does_442 rfl ?_
    show _ = _ ∧ _ = _
    unfold fm_doesK
    rw [if_neg hs0, if_neg hs1, if_neg hs2, if_neg hs3, if_neg hs4, if_neg hs5, if_neg hs6, if_neg hs7, if_neg hs8, if_pos hs9]
    first
      | exact ⟨rfl, rfl⟩
      | (rw [ejc]; exact ⟨rfl, rfl⟩)
  refine pj_J.swc (fun hs10 => ?_) (fun hs10 => ?_)
  · skip
    refine pj_J.go (oX4_does G) 4 rfl trivial ?_
    refine pj_J.cal0 kX4_does_373 (c_X4_books (m := m) s t v hA (vp_in_b8 hb (o10 hs10))) ⟨_, _, _, rfl, rfl⟩ pj_le0 pj_le0 pj_le0 ?_
    refine pj_J.go (oX4_does G) 1 rfl trivial ?_
    refine pj_vret dX4_does_442 rfl ?_
    show _ = _ ∧ _ = _
    unfold fm_doesK
    rw [if_neg hs0, if_neg hs1, if_neg hs2, if_neg hs3, if_neg hs4, if_neg hs5, if_neg hs6, if_neg hs7, if_neg hs8, if_neg hs9, if_pos hs10]
    first
      | exact ⟨rfl, rfl⟩
      | (rw [ejc]; exact ⟨rfl, rfl⟩)
  refine pj_J.swc (fun hs11 => ?_) (fun hs11 => ?_)
  · skip
    refine pj_J.go (oX4_does G) 21 rfl ⟨by exact vp_in_b8 hb (o11 hs11).1, by exact vp_in_b8 hb (o11 hs11).1, trivial⟩ ?_
    refine pj_J.cal0 kX4_does_413 (c_X4_times _ _ _ (o11 hs11).2.1) trivial pj_le0 pj_le0 pj_le0 ?_
    refine pj_J.cal0 kX4_does_416 (c_X4_becomesWhole (m := m) s (fm_showN m t v) hA (o11 hs11).2.2) ⟨_, _, _, rfl, rfl⟩ pj_le0 pj_le0 pj_le0 ?_
    refine pj_J.go (oX4_does G) 1 rfl trivial ?_
    refine pj_J.ite (fun hc419 => ?_) (fun hc419 => ?_)
    · skip
      refine pj_vret dX4_does_442 rfl ?_
      show _ = _ ∧ _ = _
      unfold fm_doesK
      rw [if_neg hs0, if_neg hs1, if_neg hs2, if_neg hs3, if_neg hs4, if_neg hs5, if_neg hs6, if_neg hs7, if_neg hs8, if_neg hs9, if_neg hs10, if_pos hs11, if_pos hc419]
      first
        | exact ⟨rfl, rfl⟩
        | (rw [ejc]; exact ⟨rfl, rfl⟩)
    · skip
      refine pj_J.go (oX4_does G) 6 rfl ⟨by exact hA, trivial⟩ ?_
      refine pj_vret dX4_does_442 rfl ?_
      show _ = _ ∧ _ = _
      unfold fm_doesK
      rw [if_neg hs0, if_neg hs1, if_neg hs2, if_neg hs3, if_neg hs4, if_neg hs5, if_neg hs6, if_neg hs7, if_neg hs8, if_neg hs9, if_neg hs10, if_pos hs11, if_neg hc419]
      first
        | exact ⟨rfl, rfl⟩
        | (rw [ejc]; exact ⟨rfl, rfl⟩)
  refine pj_J.swn ?_
  have hk12 : k = 12 := by
    obtain ⟨j, hj, rfl⟩ := vp_in_of hk13 (by decide)
    match j, hj with
    | 0, _ => first | rfl | exact absurd rfl hs0
    | 1, _ => first | rfl | exact absurd rfl hs1
    | 2, _ => first | rfl | exact absurd rfl hs2
    | 3, _ => first | rfl | exact absurd rfl hs3
    | 4, _ => first | rfl | exact absurd rfl hs4
    | 5, _ => first | rfl | exact absurd rfl hs5
    | 6, _ => first | rfl | exact absurd rfl hs6
    | 7, _ => first | rfl | exact absurd rfl hs7
    | 8, _ => first | rfl | exact absurd rfl hs8
    | 9, _ => first | rfl | exact absurd rfl hs9
    | 10, _ => first | rfl | exact absurd rfl hs10
    | 11, _ => first | rfl | exact absurd rfl hs11
    | 12, _ => rfl
  obtain ⟨t8, v31, inv, hi1, hi2⟩ := o12 hk12
  obtain ⟨j, hj, rfl⟩ := vp_in_of v31 (by decide)
  have ejc : (nI j).toNatClampNeg = j := nI_clamp (by omega)
  refine pj_J.go (oX4_does G) 4 rfl trivial ?_
  refine pj_J.cal0 kX4_does_439 (c_X4_days (m := m) s t j (by omega) hb hs t8 inv hi1 hi2) ⟨_, _, _, rfl, rfl⟩ pj_le0 pj_le0 pj_le0 ?_
  refine pj_vret dX4_does_442 rfl ?_
  show _ = _ ∧ _ = _
  unfold fm_doesK
  rw [if_neg hs0, if_neg hs1, if_neg hs2, if_neg hs3, if_neg hs4, if_neg hs5, if_neg hs6, if_neg hs7, if_neg hs8, if_neg hs9, if_neg hs10, if_neg hs11]
  first
    | exact ⟨rfl, rfl⟩
    | (rw [ejc]; exact ⟨rfl, rfl⟩)
