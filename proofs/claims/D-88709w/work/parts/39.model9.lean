/-! PennyJudgeModel: splits (by tools/gen_m9.py) -/
set_option maxRecDepth 100000
/-- the parts at a place -/
def fm_pt (m : sx_M) (i : Int32) : Int64 := sx_L m 21 (8 * sx_i m 16 + i).toNatClampNeg
def fm_spt (m : sx_M) (i : Int32) (v : Int64) : sx_M := sx_sL m 21 (vp_updL (sx_L m 21) (8 * sx_i m 16 + i).toNatClampNeg v)
/-- the first loop: the floors (rules 0, 1) or the nearest (rules 2, 3); what is left, the model -/
def fm_spV (m : sx_M) (x : Int64) (rule set : Int32) (all : Int64) (k : Nat) : Int64 := if 2 ≤ rule then fm_times (x * fm_weighed m set (nI k)) all 0 else fm_floor (x * fm_weighed m set (nI k)) all
def fm_spB (x : Int64) (rule set n : Int32) (all : Int64) (k : Nat) (z : Int64 × sx_M) : Int64 × sx_M := if n ≤ nI k then (z.1 - 0, fm_spt z.2 (nI k) 0) else (z.1 - fm_spV z.2 x rule set all k, fm_spt z.2 (nI k) (fm_spV z.2 x rule set all k))
def fm_spA (m : sx_M) (x : Int64) (rule set : Int32) : Int64 × sx_M := it_up (fm_spB x rule set (fm_partsOf m set) (fm_allW m set)) 8 0 (x, m)
/-- rules 2, 3: one part takes what is left -/
def fm_spF (m : sx_M) (rule set : Int32) : Int32 := if rule = 2 then fm_partsOf m set - 1 else 0
def fm_splitsB (m : sx_M) (x : Int64) (rule set : Int32) : sx_M := fm_spt (fm_spA m x rule set).2 (fm_spF m rule set) (fm_pt (fm_spA m x rule set).2 (fm_spF m rule set) + (fm_spA m x rule set).1)
/-- rule 1 -/
def fm_spO (m : sx_M) (set : Int32) (k : Nat) : Int64 := if fm_weighed m set (nI k) ≤ 0 then 0 else 1
def fm_sp1 (set : Int32) : Nat → Nat → Int64 × sx_M → Int64 × sx_M
  | 0, _, z => z
  | c + 1, k, z => if z.1 ≤ 0 then z else fm_sp1 set c (k + 1) (z.1 - fm_spO z.2 set k, fm_spt z.2 (nI k) (fm_pt z.2 (nI k) + fm_spO z.2 set k))
/-- rule 0: the greatest rest, the first of them -/
def fm_beB (m : sx_M) (x : Int64) (set : Int32) (all : Int64) (k : Nat) (z : Int32 × Int64) : Int32 × Int64 := if nI k = 0 then (nI k, x * fm_weighed m set (nI k) - fm_pt m (nI k) * all) else if x * fm_weighed m set (nI k) - fm_pt m (nI k) * all ≤ z.2 then z else (nI k, x * fm_weighed m set (nI k) - fm_pt m (nI k) * all)
def fm_best (m : sx_M) (x : Int64) (set n : Int32) (all : Int64) : Int32 := (it_up (fm_beB m x set all) n.toNatClampNeg 0 (0, 0)).1
def fm_sp0 (x : Int64) (set n : Int32) (all : Int64) : Nat → Int64 × sx_M → Int64 × sx_M
  | 0, z => z
  | c + 1, z => if z.1 ≤ 0 then z else fm_sp0 x set n all c (z.1 - 1, fm_spt z.2 (fm_best z.2 x set n all) (fm_pt z.2 (fm_best z.2 x set n all) + 1))
theorem lp_X4_splitsA {G : pj_G} {d : Nat} {c : sx_C} {m : sx_M} {o : Nat → Int64} {D : pj_H} {Q : pj_O → pj_H → Prop} (x : Int64) (rule set : Int32) (hb : sx_i m 16 = 0 ∨ sx_i m 16 = 1) (hset : vp_in set 4) (hw : vp_in (sx_I m 5 set.toNatClampNeg) 9) (ha : ¬ fm_allW m set = 0) (kk9 : (fm_spA m x rule set).2.1 = m.1 → sx_I (fm_spA m x rule set).2 = sx_I m → pj_J G mX4_splits (d + 3) 118 [some (.ref 59), some (.long x), none, some (.int rule), some (.int set), some (.int (fm_partsOf m set)), some (.long (fm_allW m set)), none, some (.long (fm_spA m x rule set).1), none, some (.int 8), none, none, none, none, none] [] (sx_mk c (fm_spA m x rule set).2 o D) 0 0 Q) : pj_J G mX4_splits (d + 3) 22 [some (.ref 59), some (.long x), none, some (.int rule), some (.int set), some (.int (fm_partsOf m set)), some (.long (fm_allW m set)), none, some (.long x), none, some (.int 0), none, none, none, none, none] [] (sx_mk c m o D) 0 0 Q := by
  obtain ⟨N, hN, e⟩ := vp_in_of (fm_partsOf_vp hw) (by decide)
  refine pj_for (fun k (z : Int64 × sx_M) => pj_J G mX4_splits (d + 3) 22 [some (.ref 59), some (.long x), none, some (.int rule), some (.int set), some (.int (fm_partsOf m set)), some (.long (fm_allW m set)), none, some (.long z.1), none, some (.int (nI k)), none, none, none, none, none] [] (sx_mk c z.2 o D) 0 0 Q) (fm_spB x rule set (fm_partsOf m set) (fm_allW m set)) (fun _ z => z.2.1 = m.1 ∧ sx_I z.2 = sx_I m) 8 (fun k z hk hi => ⟨?_, fun kk => ?_⟩) 8 0 (x, m) (by simp) ⟨rfl, rfl⟩ (fun hi => ?_)
  · unfold fm_spB
    split
    · exact hi
    · exact hi
  · rw [← nI_add1] at kk
    have hb2 : sx_i z.2 16 = 0 ∨ sx_i z.2 16 = 1 := by rw [show sx_i z.2 = sx_i m from hi.1]; exact hb
    have hw2 : vp_in (sx_I z.2 5 set.toNatClampNeg) 9 := by rw [hi.2]; exact hw
    by_cases hkN : k < N
    · have q1 : ¬ fm_partsOf m set ≤ nI k := by rw [e]; exact nI_lt_lit hkN (by omega)
      have q2 : nI k < fm_partsOf m set := by rw [e]; exact nI_lt hkN (by omega)
      by_cases hr : 2 ≤ rule
      · have e9 : fm_spB x rule set (fm_partsOf m set) (fm_allW m set) k z = (z.1 - fm_spV z.2 x rule set (fm_allW m set) k, fm_spt z.2 (nI k) (fm_spV z.2 x rule set (fm_allW m set) k)) := by unfold fm_spB; rw [if_neg q1]
        have e8 : fm_spV z.2 x rule set (fm_allW m set) k = fm_times (x * fm_weighed z.2 set (nI k)) (fm_allW m set) 0 := by unfold fm_spV; rw [if_pos hr]
        rw [e9, e8] at kk
        refine pj_J.go (oX4_splits G) 3 rfl trivial ?_
        refine pj_J.neg (nI_lt_lit hk (by decide)) ?_
        refine pj_J.go (oX4_splits G) 3 rfl trivial ?_
        refine pj_J.neg (q1) ?_
        refine pj_J.go (oX4_splits G) 4 rfl trivial ?_
        refine pj_J.cal0 kX4_splits_42 (c_X4_weighed (m := z.2) _ _ hset hw2 (vp_in_lit (by omega))) ⟨_, _, _, rfl, rfl⟩ pj_le0 pj_le0 pj_le0 ?_
        refine pj_J.go (oX4_splits G) 6 rfl trivial ?_
        refine pj_J.pos (q2) ?_
        refine pj_J.go (oX4_splits G) 3 rfl trivial ?_
        refine pj_J.pos (hr) ?_
        refine pj_J.go (oX4_splits G) 3 rfl trivial ?_
        refine pj_J.cal0 kX4_splits_83 (c_X4_times _ _ _ ha) trivial pj_le0 pj_le0 pj_le0 ?_
        refine pj_J.go (oX4_splits G) 17 rfl ⟨by exact vp_in_b8 hb2 (vp_in_lit hk), trivial⟩ ?_
        refine pj_J.drop ?_ kk
        exact ⟨rfl, rfl, rfl, rfl, rfl, rfl, rfl, rfl, trivial⟩
      · have e9 : fm_spB x rule set (fm_partsOf m set) (fm_allW m set) k z = (z.1 - fm_spV z.2 x rule set (fm_allW m set) k, fm_spt z.2 (nI k) (fm_spV z.2 x rule set (fm_allW m set) k)) := by unfold fm_spB; rw [if_neg q1]
        have e8 : fm_spV z.2 x rule set (fm_allW m set) k = fm_floor (x * fm_weighed z.2 set (nI k)) (fm_allW m set) := by unfold fm_spV; rw [if_neg hr]
        rw [e9, e8] at kk
        refine pj_J.go (oX4_splits G) 3 rfl trivial ?_
        refine pj_J.neg (nI_lt_lit hk (by decide)) ?_
        refine pj_J.go (oX4_splits G) 3 rfl trivial ?_
        refine pj_J.neg (q1) ?_
        refine pj_J.go (oX4_splits G) 4 rfl trivial ?_
        refine pj_J.cal0 kX4_splits_42 (c_X4_weighed (m := z.2) _ _ hset hw2 (vp_in_lit (by omega))) ⟨_, _, _, rfl, rfl⟩ pj_le0 pj_le0 pj_le0 ?_
        refine pj_J.go (oX4_splits G) 6 rfl trivial ?_
        refine pj_J.pos (q2) ?_
        refine pj_J.go (oX4_splits G) 3 rfl trivial ?_
        refine pj_J.neg (hr) ?_
        refine pj_J.go (oX4_splits G) 2 rfl trivial ?_
        refine pj_J.cal0 kX4_splits_72 (c_X4_floor _ _ ha) trivial pj_le0 pj_le0 pj_le0 ?_
        refine pj_J.go (oX4_splits G) 18 rfl ⟨by exact vp_in_b8 hb2 (vp_in_lit hk), trivial⟩ ?_
        refine pj_J.drop ?_ kk
        exact ⟨rfl, rfl, rfl, rfl, rfl, rfl, rfl, rfl, trivial⟩
    · have q1 : fm_partsOf m set ≤ nI k := by rw [e]; exact nI_ge_lit (by omega) (by omega)
      have q2 : ¬ nI k < fm_partsOf m set := by rw [e]; exact nI_nlt (by omega) (by omega)
      have e9 : fm_spB x rule set (fm_partsOf m set) (fm_allW m set) k z = (z.1 - 0, fm_spt z.2 (nI k) 0) := by unfold fm_spB; rw [if_pos q1]
      rw [e9] at kk
      refine pj_J.go (oX4_splits G) 3 rfl trivial ?_
      refine pj_J.neg (nI_lt_lit hk (by decide)) ?_
      refine pj_J.go (oX4_splits G) 3 rfl trivial ?_
      refine pj_J.pos (q1) ?_
      refine pj_J.go (oX4_splits G) 5 rfl trivial ?_
      refine pj_J.neg (q2) ?_
      refine pj_J.go (oX4_splits G) 19 rfl ⟨by exact vp_in_b8 hb2 (vp_in_lit hk), trivial⟩ ?_
      refine pj_J.drop ?_ kk
      exact ⟨rfl, rfl, rfl, rfl, rfl, rfl, rfl, rfl, trivial⟩
  · skip
    refine pj_J.go (oX4_splits G) 3 rfl trivial ?_
    refine pj_J.pos (nI_ge_lit (Nat.le_refl 8) (by decide)) ?_
    exact kk9 hi.1 hi.2
theorem c_X4_splitsB {G : pj_G} {d : Nat} {c : sx_C} {m : sx_M} {o : Nat → Int64} {D : pj_H} (x : Int64) (rule set : Int32) (hb : sx_i m 16 = 0 ∨ sx_i m 16 = 1) (hset : vp_in set 4) (hw : vp_in (sx_I m 5 set.toNatClampNeg) 9) (ha : ¬ fm_allW m set = 0) (hr : 2 ≤ rule) (hf : vp_in (fm_spF m rule set) 8) : pj_Rt G mX4_splits (d + 3) [.ref 59, .long x, .int rule, .int set] (sx_mk c m o D) 0 0 none (sx_mk c (fm_splitsB m x rule set) o D) := by
  refine pj_Cn.start ?_
  refine pj_J.go (oX4_splits G) 2 rfl trivial ?_
  refine pj_J.cal0 kX4_splits_3 (c_X4_partsOf (m := m) _ hset hw) ⟨_, _, _, rfl, rfl⟩ pj_le0 pj_le0 pj_le0 ?_
  refine pj_J.go (oX4_splits G) 3 rfl trivial ?_
  refine pj_J.cal0 kX4_splits_11 (c_X4_allWeights (m := m) _ hset hw) ⟨_, _, _, rfl, rfl⟩ pj_le0 pj_le0 pj_le0 ?_
  refine pj_J.go (oX4_splits G) 5 rfl trivial ?_
  refine lp_X4_splitsA x rule set hb hset hw ha (fun z1 z2 => ?_)
  unfold fm_splitsB
  generalize fm_spA m x rule set = z at z1 z2 ⊢
  obtain ⟨zl, zm⟩ := z
  dsimp only at z1 z2 ⊢
  have hb2 : sx_i zm 16 = 0 ∨ sx_i zm 16 = 1 := by rw [show sx_i zm = sx_i m from z1]; exact hb
  have hle : ¬ rule ≤ 1 := by rw [Int32.le_iff_toInt_le] at *; have a1 : (1 : Int32).toInt = 1 := rfl; have a2 : (2 : Int32).toInt = 2 := rfl; omega
  refine pj_J.go (oX4_splits G) 3 rfl trivial ?_
  refine pj_J.neg (hle) ?_
  refine pj_J.go (oX4_splits G) 9 rfl trivial ?_
  refine pj_J.ite (fun hc136 => ?_) (fun hc136 => ?_)
  · skip
    refine pj_J.go (oX4_splits G) 10 rfl ⟨by unfold fm_spF at hf; first | (rw [if_pos hc136] at hf; exact vp_in_b8 hb2 hf) | (rw [if_neg hc136] at hf; exact vp_in_b8 hb2 hf), by unfold fm_spF at hf; first | (rw [if_pos hc136] at hf; exact vp_in_b8 hb2 hf) | (rw [if_neg hc136] at hf; exact vp_in_b8 hb2 hf), trivial⟩ ?_
    refine pj_vret dX4_splits_154 rfl ?_
    show _ = _ ∧ _ = _
    unfold fm_spF
    rw [if_pos hc136]
    exact ⟨rfl, rfl⟩
  · skip
    refine pj_J.go (oX4_splits G) 7 rfl ⟨by unfold fm_spF at hf; first | (rw [if_pos hc136] at hf; exact vp_in_b8 hb2 hf) | (rw [if_neg hc136] at hf; exact vp_in_b8 hb2 hf), by unfold fm_spF at hf; first | (rw [if_pos hc136] at hf; exact vp_in_b8 hb2 hf) | (rw [if_neg hc136] at hf; exact vp_in_b8 hb2 hf), trivial⟩ ?_
    refine pj_vret dX4_splits_154 rfl ?_
    show _ = _ ∧ _ = _
    unfold fm_spF
    rw [if_neg hc136]
    exact ⟨rfl, rfl⟩
