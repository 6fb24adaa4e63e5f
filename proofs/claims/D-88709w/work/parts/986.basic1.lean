/-! the plain calls: begin, rate, line, bare, weight. Own work. -/
set_option maxRecDepth 100000
theorem in_no {v lo hi : Int32} (h : v < lo ∨ hi < v) : fm_in v lo hi = 0 := by
  unfold fm_in pj_b
  rw [if_neg]
  rintro ⟨a, b⟩
  rw [Int32.le_iff_toInt_le] at a b
  rw [Int32.lt_iff_toInt_lt, Int32.lt_iff_toInt_lt] at h
  omega
theorem in_yes {v lo hi : Int32} (h1 : ¬ v < lo) (h2 : ¬ hi < v) : fm_in v lo hi = 1 := by
  unfold fm_in pj_b
  rw [if_pos ⟨Int32.not_lt.mp h1, Int32.not_lt.mp h2⟩]
theorem in_vp {v : Int32} {n : Nat} (hn : n < 2 ^ 31 := by decide) (h1 : ¬ v < 0) (h2 : ¬ nI n < v) : vp_in v (n + 1) := by
  rw [Int32.lt_iff_toInt_lt, show (0 : Int32).toInt = 0 from rfl] at h1
  rw [Int32.lt_iff_toInt_lt, nI_toInt hn] at h2
  exact vp_in_iff.mpr (by omega)
/-- what the tapes stand on in the model -/
def af (m x : sx_M) : Prop := (∀ i, 33 ≤ i → i ≤ 37 → sx_I x i = sx_I m i) ∧ (∀ i, i = 35 ∨ i = 38 ∨ i = 39 ∨ i = 40 → sx_L x i = sx_L m i)
/-- what the programs stand on in the model -/
def pf (m x : sx_M) : Prop := (∀ i, 8 ≤ i → i ≤ 12 → sx_I x i = sx_I m i) ∧ sx_L x 24 = sx_L m 24 ∧ sx_L x 25 = sx_L m 25 ∧ sx_i x 7 = sx_i m 7
theorem af.refl (m : sx_M) : af m m := ⟨fun _ _ _ => rfl, fun _ _ => rfl⟩
theorem pf.refl (m : sx_M) : pf m m := ⟨fun _ _ _ => rfl, rfl, rfl, rfl⟩
theorem af_I {m : sx_M} {k : Nat} {f : Nat → Int32} (h : k < 33 ∨ 37 < k) : af m (sx_sI m k f) := ⟨fun i a b => by rw [rg_II, if_neg (by omega)], fun _ _ => rfl⟩
theorem pf_I {m : sx_M} {k : Nat} {f : Nat → Int32} (h : k < 8 ∨ 12 < k) : pf m (sx_sI m k f) := ⟨fun i a b => by rw [rg_II, if_neg (by omega)], rfl, rfl, rfl⟩
theorem af.tr {m x y : sx_M} (h : af m x) (g : af x y) : af m y := ⟨fun i a b => (g.1 i a b).trans (h.1 i a b), fun i a => (g.2 i a).trans (h.2 i a)⟩
theorem pf.tr {m x y : sx_M} (h : pf m x) (g : pf x y) : pf m y := ⟨fun i a b => (g.1 i a b).trans (h.1 i a b), g.2.1.trans h.2.1, g.2.2.1.trans h.2.2.1, g.2.2.2.trans h.2.2.2⟩
theorem ba_rate {c : sx_C} {m : sx_M} (h : iv c m) (k p q : Int32) : (fc_rate c.1 k p q).1 = (fm_rate m k p q).1 ∧ iv (sx_sM c (fc_rate c.1 k p q).2) (fm_rate m k p q).2 ∧ af m (fm_rate m k p q).2 ∧ pf m (fm_rate m k p q).2 := by
  have base : ((-1 : Int32), c.1).1 = ((-1 : Int32), m).1 ∧ iv (sx_sM c ((-1 : Int32), c.1).2) ((-1 : Int32), m).2 ∧ af m ((-1 : Int32), m).2 ∧ pf m ((-1 : Int32), m).2 := ⟨rfl, h, af.refl m, pf.refl m⟩
  unfold fc_rate fm_rate
  by_cases k1 : k < 0
  · rw [if_pos k1, if_pos (in_no (Or.inl k1))]; exact base
  rw [if_neg k1]
  by_cases k2 : (7 : Int32) < k
  · rw [if_pos k2, if_pos (in_no (Or.inr k2))]; exact base
  rw [if_neg k2, in_yes k1 k2, if_neg (by decide : ¬ (1 : Int32) = 0)]
  by_cases p1 : p < 0
  · rw [if_pos p1, if_pos (in_no (Or.inl p1))]; exact base
  rw [if_neg p1]
  by_cases p2 : (10000 : Int32) < p
  · rw [if_pos p2, if_pos (in_no (Or.inr p2))]; exact base
  rw [if_neg p2, in_yes p1 p2, if_neg (by decide : ¬ (1 : Int32) = 0)]
  by_cases q1 : q < 1
  · rw [if_pos q1, if_pos (in_no (Or.inl q1))]; exact base
  rw [if_neg q1]
  by_cases q2 : q ≤ 1000
  · rw [if_pos q2, in_yes q1 (by rw [Int32.lt_iff_toInt_lt]; rw [Int32.le_iff_toInt_le] at q2; omega), if_neg (by decide : ¬ (1 : Int32) = 0)]
    obtain ⟨i, hi, rfl⟩ := vp_in_of (in_vp (n := 7) (by decide) k1 k2) (by decide)
    rw [rl_c (show i < 100000 by omega)]
    obtain ⟨⟨w1, w2, w3⟩, h2, h3, h4, h5, h6, h7, h8, h9, h10, h11, h12, h13⟩ := h
    refine ⟨rfl, ⟨⟨fun j hj => ?_, w2, w3⟩, h2, h3, h4, h5, h6, h7, h8, h9, h10, h11, h12, h13⟩, (af_I (k := 1) (by omega)).tr (af_I (k := 2) (by omega)), (pf_I (k := 1) (by omega)).tr (pf_I (k := 2) (by omega))⟩
    have e := w1 j hj
    rw [Int32.lt_iff_toInt_lt] at p1 p2 q1
    rw [Int32.le_iff_toInt_le] at q2
    have c0 : (0 : Int32).toInt = 0 := rfl
    have c1 : (10000 : Int32).toInt = 10000 := rfl
    have c2 : (1 : Int32).toInt = 1 := rfl
    have c3 : (1000 : Int32).toInt = 1000 := rfl
    show upd (sx_I c.1 0) i p j = upd (sx_I m 1) i p j ∧ upd (sx_I c.1 1) i q j = upd (sx_I m 2) i q j ∧ 0 ≤ (upd (sx_I c.1 0) i p j).toInt ∧ (upd (sx_I c.1 0) i p j).toInt ≤ 10000 ∧ 1 ≤ (upd (sx_I c.1 1) i q j).toInt ∧ (upd (sx_I c.1 1) i q j).toInt ≤ 1000
    rw [rg_u, rg_u, rg_u, rg_u]
    by_cases z : j = i
    · simp only [if_pos z]
      exact ⟨True.intro, True.intro, by omega, by omega, by omega, by omega⟩
    · simp only [if_neg z]; exact e
  · rw [if_neg q2, if_pos (in_no (Or.inr (by rw [Int32.lt_iff_toInt_lt]; rw [Int32.le_iff_toInt_le] at q2; omega)))]; exact base
theorem ba_line {c : sx_C} {m : sx_M} (h : iv c m) (x : Int32) : (fc_line c.1 x).1 = (fm_line m x).1 ∧ iv (sx_sM c (fc_line c.1 x).2) (fm_line m x).2 ∧ af m (fm_line m x).2 ∧ pf m (fm_line m x).2 := by
  have base : ∀ r : Int32, (r, c.1).1 = (r, m).1 ∧ iv (sx_sM c (r, c.1).2) (r, m).2 ∧ af m (r, m).2 ∧ pf m (r, m).2 := fun _ => ⟨rfl, h, af.refl m, pf.refl m⟩
  have lc0 : (-1000000 : Int64).toInt = -1000000 := rfl
  have lc1 : (1000000 : Int64).toInt = 1000000 := rfl
  have ic0 : (-1000000 : Int32).toInt = -1000000 := rfl
  have ic1 : (1000000 : Int32).toInt = 1000000 := rfl
  have L : fm_isLine x.toInt64 = if x < -1000000 then 0 else if x ≤ 1000000 then 1 else 0 := by
    unfold fm_isLine pj_b
    simp only [pn_le, Int32.toInt_toInt64, Int32.lt_iff_toInt_lt, Int32.le_iff_toInt_le, lc0, lc1, ic0, ic1]
    by_cases a : x.toInt < -1000000
    · rw [if_pos a, if_neg (by omega)]
    · rw [if_neg a]
      by_cases b : x.toInt ≤ 1000000
      · rw [if_pos b, if_pos ⟨by omega, b⟩]
      · rw [if_neg b, if_neg (by omega)]
  unfold fc_line fm_line
  rw [L]
  by_cases a : x < -1000000
  · rw [if_pos a, if_pos a, if_pos rfl]; exact base _
  rw [if_neg a, if_neg a]
  by_cases b : x ≤ 1000000
  · rw [if_pos b, if_pos b, if_neg (by decide : ¬ (1 : Int32) = 0)]
    obtain ⟨w, ⟨nl, hnl, l1, l2, l3, l4⟩, h3, h4, h5, h6, h7, h8, h9, h10, h11, h12, h13⟩ := h
    rw [l1, l2]
    by_cases e : nI nl = 12
    · rw [if_pos e, if_pos e]; exact base _
    · rw [if_neg e, if_neg e, rl_c (show nl < 100000 by omega)]
      have hne : nl ≠ 12 := fun z => e (by rw [z]; rfl)
      refine ⟨rfl, ⟨w, ⟨nl + 1, by omega, ?_, ?_, fun j hj => ?_, fun j hj => ?_⟩, h3, h4, h5, h6, h7, h8, h9, h10, h11, h12, h13⟩, ?_, ?_⟩
      · show nI nl + 1 = nI (nl + 1)
        exact nI_1 nl
      · show nI nl + 1 = nI (nl + 1)
        exact nI_1 nl
      · show upd (sx_I c.1 2) nl x j = upd (sx_I m 4) nl x j
        rw [rg_u, rg_u]
        by_cases z : j = nl
        · rw [if_pos z, if_pos z]
        · rw [if_neg z, if_neg z]; exact l3 j (by omega)
      · show (upd (sx_I c.1 2) nl x j).toInt.natAbs ≤ _
        rw [rg_u]
        by_cases z : j = nl
        · rw [if_pos z]
          rw [Int32.lt_iff_toInt_lt] at a
          rw [Int32.le_iff_toInt_le] at b
          omega
        · rw [if_neg z]; exact l4 j hj
      · exact ⟨fun i a b => by show (if i = 4 then _ else sx_I m i) = _; rw [if_neg (by omega)], fun _ _ => rfl⟩
      · exact ⟨fun i a b => by show (if i = 4 then _ else sx_I m i) = _; rw [if_neg (by omega)], rfl, rfl, rfl⟩
  · rw [if_neg b, if_neg b, if_pos rfl]; exact base _
theorem ba_bare {c : sx_C} {m : sx_M} (h : iv c m) : (fc_bare c.1).1 = (fm_bare m).1 ∧ iv (sx_sM c (fc_bare c.1).2) (fm_bare m).2 ∧ af m (fm_bare m).2 ∧ pf m (fm_bare m).2 := by
  obtain ⟨w, ⟨nl, hnl, l1, l2, l3, l4⟩, h3, h4, h5, h6, h7, h8, h9, h10, h11, h12, h13⟩ := h
  refine ⟨?_, ⟨w, ⟨0, by omega, rfl, rfl, fun k hk => absurd hk (by omega), l4⟩, h3, h4, h5, h6, h7, h8, h9, h10, h11, h12, h13⟩, ⟨fun _ _ _ => rfl, fun _ _ => rfl⟩, ⟨fun _ _ _ => rfl, rfl, rfl, rfl⟩⟩
  show sx_i c.1 3 = sx_i m 3
  rw [l1, l2]
theorem ba_weight {c : sx_C} {m : sx_M} (h : iv c m) (set w : Int32) : (fc_weight c.1 set w).1 = (fm_weight m set w).1 ∧ iv (sx_sM c (fc_weight c.1 set w).2) (fm_weight m set w).2 ∧ af m (fm_weight m set w).2 ∧ pf m (fm_weight m set w).2 := by
  have base : ∀ r : Int32, (r, c.1).1 = (r, m).1 ∧ iv (sx_sM c (r, c.1).2) (r, m).2 ∧ af m (r, m).2 ∧ pf m (r, m).2 := fun _ => ⟨rfl, h, af.refl m, pf.refl m⟩
  unfold fc_weight fm_weight
  by_cases k1 : set < 0
  · rw [if_pos k1, if_pos (in_no (Or.inl k1))]; exact base _
  rw [if_neg k1]
  by_cases k2 : (3 : Int32) < set
  · rw [if_pos k2, if_pos (in_no (Or.inr k2))]; exact base _
  rw [if_neg k2, in_yes k1 k2, if_neg (by decide : ¬ (1 : Int32) = 0)]
  by_cases q1 : w < -1
  · rw [if_pos q1, if_pos (in_no (Or.inl q1))]; exact base _
  rw [if_neg q1]
  by_cases q2 : w ≤ 1000
  · rw [if_pos q2, in_yes q1 (by rw [Int32.lt_iff_toInt_lt]; rw [Int32.le_iff_toInt_le] at q2; omega), if_neg (by decide : ¬ (1 : Int32) = 0)]
    obtain ⟨i, hi, rfl⟩ := vp_in_of (in_vp (n := 3) (by decide) k1 k2) (by decide)
    rw [rl_c (show i < 100000 by omega)]
    obtain ⟨⟨w1, w2, w3⟩, h2, h3, h4, h5, h6, h7, h8, h9, h10, h11, h12, h13⟩ := h
    obtain ⟨e5, i5⟩ := w2 i hi
    by_cases wm : w = -1
    · rw [if_pos wm, if_pos wm]
      refine ⟨rfl, ⟨⟨w1, fun j hj => ?_, w3⟩, h2, h3, h4, h5, h6, h7, h8, h9, h10, h11, h12, h13⟩, af_I (by omega), pf_I (by omega)⟩
      show upd (sx_I c.1 5) i 0 j = upd (sx_I m 5) i 0 j ∧ vp_in (upd (sx_I c.1 5) i 0 j) 9
      rw [rg_u, rg_u]
      by_cases z : j = i
      · simp only [if_pos z]; exact ⟨True.intro, vp_in_nI (n := 0) (by decide) (by decide)⟩
      · simp only [if_neg z]; exact w2 j hj
    · rw [if_neg wm, if_neg wm, ← e5]
      obtain ⟨n, hn, en⟩ := vp_in_of i5 (by decide)
      by_cases e8 : sx_I c.1 5 i = 8
      · rw [if_pos e8, if_pos e8]; exact ⟨rfl, ⟨⟨w1, w2, w3⟩, h2, h3, h4, h5, h6, h7, h8, h9, h10, h11, h12, h13⟩, af.refl m, pf.refl m⟩
      · rw [if_neg e8, if_neg e8, en]
        have hne : n ≠ 8 := fun z => e8 (by rw [en, z]; rfl)
        rw [sh_ixc hi (by omega), sh_ixm hi (by omega)]
        refine ⟨?_, ⟨⟨w1, fun j hj => ?_, fun j hj => ?_⟩, h2, h3, h4, h5, h6, h7, h8, h9, h10, h11, h12, h13⟩, (af_I (by omega)).tr (af_I (by omega)), (pf_I (by omega)).tr (pf_I (by omega))⟩
        · show upd (sx_I c.1 5) i (nI n + 1) i = nI n + 1
          rw [rg_u, if_pos rfl]
        · show upd (sx_I c.1 5) i (nI n + 1) j = upd (sx_I m 5) i (nI n + 1) j ∧ vp_in (upd (sx_I c.1 5) i (nI n + 1) j) 9
          rw [rg_u, rg_u]
          by_cases z : j = i
          · simp only [if_pos z]; exact ⟨True.intro, by rw [nI_1]; exact vp_in_nI (by omega) (by decide)⟩
          · simp only [if_neg z]; exact w2 j hj
        · have e := w3 j hj
          rw [Int32.lt_iff_toInt_lt] at q1
          rw [Int32.le_iff_toInt_le] at q2
          have c0 : (-1 : Int32).toInt = -1 := rfl
          have c3 : (1000 : Int32).toInt = 1000 := rfl
          have : w.toInt ≠ -1 := fun z => wm (Int32.toInt_inj.mp z)
          show upd (sx_I c.1 4) (8 * i + n) w j = upd (sx_I m 6) (8 * i + n) w j ∧ 0 ≤ (upd (sx_I c.1 4) (8 * i + n) w j).toInt ∧ (upd (sx_I c.1 4) (8 * i + n) w j).toInt ≤ 1000
          rw [rg_u, rg_u]
          by_cases z : j = 8 * i + n
          · simp only [if_pos z]; exact ⟨True.intro, by omega, by omega⟩
          · simp only [if_neg z]; exact e
  · rw [if_neg q2, if_pos (in_no (Or.inr (by rw [Int32.lt_iff_toInt_lt]; rw [Int32.le_iff_toInt_le] at q2; omega)))]; exact base _
