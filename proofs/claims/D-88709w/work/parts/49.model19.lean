/-! PennyJudgeModel: isUnfair hasChoice chooses rounded same load copy (by tools/gen_n1.py) -/
set_option maxRecDepth 100000
def fm_ufB (m : sx_M) (w : Int64) (k : Nat) (f : Int32) : Int32 := if f = (0 : Int32) then (if w ≤ (((sx_L m 21 ((8 : Int32) + (nI k)).toNatClampNeg) * w) - ((sx_l m 29) * (fm_weighed m (sx_i m 30) (nI k)))) then (1 : Int32) else (if (-w) < (((sx_L m 21 ((8 : Int32) + (nI k)).toNatClampNeg) * w) - ((sx_l m 29) * (fm_weighed m (sx_i m 30) (nI k)))) then (0 : Int32) else (1 : Int32))) else (1 : Int32)
theorem ly_fm_ufB {G : pj_G} {d : Nat} {c : sx_C} {m : sx_M} {o : Nat → Int64} {D : pj_H} {Q : pj_O → pj_H → Prop} (w : Int64) (k : Nat) (f : Int32) (hs : ¬ sx_i m 27 = 0) (hset : vp_in (sx_i m 30) 4) (hw : vp_in (sx_I m 5 (sx_i m 30).toNatClampNeg) 9) (n : Nat) (hn : fm_partsOf m (sx_i m 30) = nI n) (hn8 : n ≤ 8) (hk : k < n) (kk : pj_J G mX4_isUnfair (d + 2) 25 [some (.ref 59), some (.int (fm_ufB m w k f)), some (.long w), none, some (.int (nI k + 1)), none, none] [] (sx_mk c m o D) 0 0 Q) : pj_J G mX4_isUnfair (d + 2) 25 [some (.ref 59), some (.int f), some (.long w), none, some (.int (nI k)), none, none] [] (sx_mk c m o D) 0 0 Q := by
  unfold fm_ufB at kk
  refine pj_J.go (oX4_isUnfair G) 3 rfl trivial ?_
  refine pj_J.neg (hs) ?_
  refine pj_J.go (oX4_isUnfair G) 4 rfl trivial ?_
  refine pj_J.cal0 kX4_isUnfair_39 (c_X4_partsOf (m := m) (sx_i m 30) hset hw) ⟨_, _, _, rfl, rfl⟩ pj_le0 pj_le0 pj_le0 ?_
  refine pj_J.go (oX4_isUnfair G) 1 rfl trivial ?_
  refine pj_J.neg (by rw [hn]; exact nI_lt_lit hk (by omega)) ?_
  refine pj_J.go (oX4_isUnfair G) 14 rfl ⟨by exact vp_in_8k (by omega), trivial⟩ ?_
  refine pj_J.cal0 kX4_isUnfair_68 (c_X4_weighed (m := m) (sx_i m 30) (nI k) hset hw (vp_in_lit (by omega) (by decide))) ⟨_, _, _, rfl, rfl⟩ pj_le0 pj_le0 pj_le0 ?_
  refine pj_J.go (oX4_isUnfair G) 5 rfl trivial ?_
  refine pj_J.ite (fun hc76 => ?_) (fun hc76 => ?_)
  · skip
    refine pj_J.go (oX4_isUnfair G) 4 rfl trivial ?_
    refine pj_J.ite (fun hc83 => ?_) (fun hc83 => ?_)
    · simp only [pj_lc_ge] at hc83
      refine pj_J.go (oX4_isUnfair G) 5 rfl trivial ?_
      rw [if_pos (show f = (0 : Int32) from hc76), if_pos (show w ≤ (((sx_L m 21 ((8 : Int32) + (nI k)).toNatClampNeg) * w) - ((sx_l m 29) * (fm_weighed m (sx_i m 30) (nI k)))) from hc83)] at kk
      exact pj_J.drp kk ⟨rfl, rfl, rfl, rfl, trivial⟩
    · simp only [pj_lc_ge] at hc83
      refine pj_J.go (oX4_isUnfair G) 5 rfl trivial ?_
      refine pj_J.ite (fun hc91 => ?_) (fun hc91 => ?_)
      · simp only [pj_lc_gt] at hc91
        refine pj_J.go (oX4_isUnfair G) 4 rfl trivial ?_
        rw [if_pos (show f = (0 : Int32) from hc76), if_neg (show ¬ (w ≤ (((sx_L m 21 ((8 : Int32) + (nI k)).toNatClampNeg) * w) - ((sx_l m 29) * (fm_weighed m (sx_i m 30) (nI k))))) from hc83), if_pos (show (-w) < (((sx_L m 21 ((8 : Int32) + (nI k)).toNatClampNeg) * w) - ((sx_l m 29) * (fm_weighed m (sx_i m 30) (nI k)))) from hc91)] at kk
        exact pj_J.drp kk ⟨rfl, rfl, rfl, rfl, trivial⟩
      · simp only [pj_lc_gt] at hc91
        refine pj_J.go (oX4_isUnfair G) 5 rfl trivial ?_
        rw [if_pos (show f = (0 : Int32) from hc76), if_neg (show ¬ (w ≤ (((sx_L m 21 ((8 : Int32) + (nI k)).toNatClampNeg) * w) - ((sx_l m 29) * (fm_weighed m (sx_i m 30) (nI k))))) from hc83), if_neg (show ¬ ((-w) < (((sx_L m 21 ((8 : Int32) + (nI k)).toNatClampNeg) * w) - ((sx_l m 29) * (fm_weighed m (sx_i m 30) (nI k))))) from hc91)] at kk
        exact pj_J.drp kk ⟨rfl, rfl, rfl, rfl, trivial⟩
  · skip
    refine pj_J.go (oX4_isUnfair G) 5 rfl trivial ?_
    rw [if_neg (show ¬ (f = (0 : Int32)) from hc76)] at kk
    exact pj_J.drp kk ⟨rfl, rfl, rfl, rfl, trivial⟩
theorem lz_fm_ufB {G : pj_G} {d : Nat} {c : sx_C} {m : sx_M} {o : Nat → Int64} {D : pj_H} {Q : pj_O → pj_H → Prop} (w : Int64) (f : Int32) (hf : f = 0 ∨ f = 1) (hs : ¬ sx_i m 27 = 0) (hset : vp_in (sx_i m 30) 4) (hw : vp_in (sx_I m 5 (sx_i m 30).toNatClampNeg) 9) (n : Nat) (hn : fm_partsOf m (sx_i m 30) = nI n) (hn8 : n ≤ 8) (q : Q (.inl (some (.int f))) (sx_mk c m o D)) : pj_J G mX4_isUnfair (d + 2) 25 [some (.ref 59), some (.int f), some (.long w), none, some (.int (nI n)), none, none] [] (sx_mk c m o D) 0 0 Q := by
  refine pj_J.go (oX4_isUnfair G) 3 rfl trivial ?_
  refine pj_J.neg (hs) ?_
  refine pj_J.go (oX4_isUnfair G) 4 rfl trivial ?_
  refine pj_J.cal0 kX4_isUnfair_39 (c_X4_partsOf (m := m) (sx_i m 30) hset hw) ⟨_, _, _, rfl, rfl⟩ pj_le0 pj_le0 pj_le0 ?_
  refine pj_J.go (oX4_isUnfair G) 1 rfl trivial ?_
  refine pj_J.pos (by rw [hn]; exact nI_ge_lit (Nat.le_refl _) (by omega)) ?_
  refine pj_J.go (oX4_isUnfair G) 1 rfl trivial ?_
  exact pj_zret dX4_isUnfair_107 rfl (hf) q
theorem fm_ufB01 (m : sx_M) (w : Int64) (k : Nat) (f : Int32) : fm_ufB m w k f = 0 ∨ fm_ufB m w k f = 1 := by
  unfold fm_ufB
  repeat' split
  all_goals first | exact Or.inl rfl | exact Or.inr rfl
def fm_isUnfair (m : sx_M) : Int32 := if sx_i m 27 = 0 then 0 else it_up (fm_ufB m (fm_allW m (sx_i m 30))) (fm_partsOf m (sx_i m 30)).toNatClampNeg 0 0
theorem c_X4_isUnfair0 {G : pj_G} {d : Nat} {c : sx_C} {m : sx_M} {o : Nat → Int64} {D : pj_H} (hs : sx_i m 27 = 0) : pj_Rt G mX4_isUnfair (d + 3) [.ref 59] (sx_mk c m o D) 0 0 (some (.int (fm_isUnfair m))) (sx_mk c m o D) := by
  unfold fm_isUnfair
  rw [if_pos hs]
  refine pj_Cn.start ?_
  refine pj_J.go (oX4_isUnfair G) 5 rfl trivial ?_
  refine pj_J.pos (hs) ?_
  refine pj_J.go (oX4_isUnfair G) 7 rfl trivial ?_
  refine pj_J.pos (hs) ?_
  refine pj_J.go (oX4_isUnfair G) 1 rfl trivial ?_
  exact pj_zret dX4_isUnfair_107 rfl (by first | exact Or.inl rfl | exact Or.inr rfl | exact pj_b01 _ | assumption) ⟨rfl, rfl⟩
theorem c_X4_isUnfair1 {G : pj_G} {d : Nat} {c : sx_C} {m : sx_M} {o : Nat → Int64} {D : pj_H} (hs : ¬ sx_i m 27 = 0) (hset : vp_in (sx_i m 30) 4) (hw : vp_in (sx_I m 5 (sx_i m 30).toNatClampNeg) 9) (n : Nat) (hn : fm_partsOf m (sx_i m 30) = nI n) (hn8 : n ≤ 8) : pj_Rt G mX4_isUnfair (d + 3) [.ref 59] (sx_mk c m o D) 0 0 (some (.int (fm_isUnfair m))) (sx_mk c m o D) := by
  unfold fm_isUnfair
  rw [if_neg hs, hn, nI_clamp (by omega)]
  refine pj_Cn.start ?_
  refine pj_J.go (oX4_isUnfair G) 5 rfl trivial ?_
  refine pj_J.neg (hs) ?_
  refine pj_J.go (oX4_isUnfair G) 3 rfl trivial ?_
  refine pj_J.cal0 kX4_isUnfair_14 (c_X4_allWeights (m := m) (sx_i m 30) hset hw) ⟨_, _, _, rfl, rfl⟩ pj_le0 pj_le0 pj_le0 ?_
  refine pj_J.go (oX4_isUnfair G) 4 rfl trivial ?_
  refine pj_J.drop (L' := [some (.ref 59), some (.int 0), some (.long (fm_allW m (sx_i m 30))), none, some (.int (nI 0)), none, none]) ⟨rfl, rfl, rfl, rfl, trivial⟩ ?_
  exact pj_for (fun k f => pj_J G mX4_isUnfair (d + 3) 25 [some (.ref 59), some (.int f), some (.long (fm_allW m (sx_i m 30))), none, some (.int (nI k)), none, none] [] (sx_mk c m o D) 0 0 _) (fm_ufB m (fm_allW m (sx_i m 30))) (fun _ f => f = 0 ∨ f = 1) n (fun k f hk hi => ⟨fm_ufB01 m _ k f, fun kk => ly_fm_ufB (d := d + 1) _ k f hs hset hw n hn hn8 hk (by rw [nI_add1]; exact kk)⟩) n 0 0 (by simp) (Or.inl rfl) (fun hi => lz_fm_ufB (d := d + 1) _ _ hi hs hset hw n hn hn8 ⟨rfl, rfl⟩)
def fm_hasChoice (k : Int32) : Int32 := if k = (1 : Int32) then (1 : Int32) else (if k = (2 : Int32) then (1 : Int32) else (if k = (4 : Int32) then (1 : Int32) else (if k = (6 : Int32) then (1 : Int32) else (if k = (11 : Int32) then (1 : Int32) else (0 : Int32)))))
theorem c_X4_hasChoice {G : pj_G} {d : Nat} {c : sx_C} {m : sx_M} {o : Nat → Int64} {D : pj_H} (k : Int32)  : pj_Rt G mX4_hasChoice (d) [.ref 59, .int k] (sx_mk c m o D) 0 0 (some (.int (fm_hasChoice k))) (sx_mk c m o D) := by
  refine pj_Cn.start ?_
  refine pj_J.go (oX4_hasChoice G) 3 rfl trivial ?_
  refine pj_J.ite (fun hc2 => ?_) (fun hc2 => ?_)
  · skip
    refine pj_J.go (oX4_hasChoice G) 2 rfl trivial ?_
    refine pj_zret dX4_hasChoice_32 rfl (by first | exact Or.inl rfl | exact Or.inr rfl | exact pj_b01 _ | assumption) ?_
    show _ = _ ∧ _ = _
    have e : fm_hasChoice k = (1 : Int32) := by unfold fm_hasChoice; rw [if_pos (show k = (1 : Int32) from hc2)]
    rw [e]
    try dsimp only
    exact ⟨rfl, rfl⟩
  · skip
    refine pj_J.go (oX4_hasChoice G) 3 rfl trivial ?_
    refine pj_J.ite (fun hc7 => ?_) (fun hc7 => ?_)
    · skip
      refine pj_J.go (oX4_hasChoice G) 2 rfl trivial ?_
      refine pj_zret dX4_hasChoice_32 rfl (by first | exact Or.inl rfl | exact Or.inr rfl | exact pj_b01 _ | assumption) ?_
      show _ = _ ∧ _ = _
      have e : fm_hasChoice k = (1 : Int32) := by unfold fm_hasChoice; rw [if_neg (show ¬ (k = (1 : Int32)) from hc2), if_pos (show k = (2 : Int32) from hc7)]
      rw [e]
      try dsimp only
      exact ⟨rfl, rfl⟩
    · skip
      refine pj_J.go (oX4_hasChoice G) 3 rfl trivial ?_
      refine pj_J.ite (fun hc12 => ?_) (fun hc12 => ?_)
      · skip
        refine pj_J.go (oX4_hasChoice G) 2 rfl trivial ?_
        refine pj_zret dX4_hasChoice_32 rfl (by first | exact Or.inl rfl | exact Or.inr rfl | exact pj_b01 _ | assumption) ?_
        show _ = _ ∧ _ = _
        have e : fm_hasChoice k = (1 : Int32) := by unfold fm_hasChoice; rw [if_neg (show ¬ (k = (1 : Int32)) from hc2), if_neg (show ¬ (k = (2 : Int32)) from hc7), if_pos (show k = (4 : Int32) from hc12)]
        rw [e]
        try dsimp only
        exact ⟨rfl, rfl⟩
      · skip
        refine pj_J.go (oX4_hasChoice G) 3 rfl trivial ?_
        refine pj_J.ite (fun hc18 => ?_) (fun hc18 => ?_)
        · skip
          refine pj_J.go (oX4_hasChoice G) 2 rfl trivial ?_
          refine pj_zret dX4_hasChoice_32 rfl (by first | exact Or.inl rfl | exact Or.inr rfl | exact pj_b01 _ | assumption) ?_
          show _ = _ ∧ _ = _
          have e : fm_hasChoice k = (1 : Int32) := by unfold fm_hasChoice; rw [if_neg (show ¬ (k = (1 : Int32)) from hc2), if_neg (show ¬ (k = (2 : Int32)) from hc7), if_neg (show ¬ (k = (4 : Int32)) from hc12), if_pos (show k = (6 : Int32) from hc18)]
          rw [e]
          try dsimp only
          exact ⟨rfl, rfl⟩
        · skip
          refine pj_J.go (oX4_hasChoice G) 3 rfl trivial ?_
          refine pj_J.ite (fun hc24 => ?_) (fun hc24 => ?_)
          · skip
            refine pj_J.go (oX4_hasChoice G) 2 rfl trivial ?_
            refine pj_zret dX4_hasChoice_32 rfl (by first | exact Or.inl rfl | exact Or.inr rfl | exact pj_b01 _ | assumption) ?_
            show _ = _ ∧ _ = _
            have e : fm_hasChoice k = (1 : Int32) := by unfold fm_hasChoice; rw [if_neg (show ¬ (k = (1 : Int32)) from hc2), if_neg (show ¬ (k = (2 : Int32)) from hc7), if_neg (show ¬ (k = (4 : Int32)) from hc12), if_neg (show ¬ (k = (6 : Int32)) from hc18), if_pos (show k = (11 : Int32) from hc24)]
            rw [e]
            try dsimp only
            exact ⟨rfl, rfl⟩
          · skip
            refine pj_J.go (oX4_hasChoice G) 1 rfl trivial ?_
            refine pj_zret dX4_hasChoice_32 rfl (by first | exact Or.inl rfl | exact Or.inr rfl | exact pj_b01 _ | assumption) ?_
            show _ = _ ∧ _ = _
            have e : fm_hasChoice k = (0 : Int32) := by unfold fm_hasChoice; rw [if_neg (show ¬ (k = (1 : Int32)) from hc2), if_neg (show ¬ (k = (2 : Int32)) from hc7), if_neg (show ¬ (k = (4 : Int32)) from hc12), if_neg (show ¬ (k = (6 : Int32)) from hc18), if_neg (show ¬ (k = (11 : Int32)) from hc24)]
            rw [e]
            try dsimp only
            exact ⟨rfl, rfl⟩
def fm_chooses (m : sx_M) (at_ : Int32) (v : Int32) : sx_M := if (sx_I m 9 at_.toNatClampNeg) = (4 : Int32) then (sx_sI m 11 (upd (sx_I m 11) at_.toNatClampNeg v)) else (if (sx_I m 9 at_.toNatClampNeg) = (6 : Int32) then (sx_sI m 11 (upd (sx_I m 11) at_.toNatClampNeg v)) else (sx_sI m 12 (upd (sx_I m 12) at_.toNatClampNeg v)))
theorem c_X4_chooses {G : pj_G} {d : Nat} {c : sx_C} {m : sx_M} {o : Nat → Int64} {D : pj_H} (at_ : Int32) (v : Int32) (hat : vp_in at_ 80) : pj_Rt G mX4_chooses (d) [.ref 59, .int at_, .int v] (sx_mk c m o D) 0 0 none (sx_mk c (fm_chooses m at_ v) o D) := by
  refine pj_Cn.start ?_
  refine pj_J.go (oX4_chooses G) 6 rfl ⟨by exact hat, trivial⟩ ?_
  refine pj_J.ite (fun hc7 => ?_) (fun hc7 => ?_)
  · skip
    refine pj_J.go (oX4_chooses G) 6 rfl ⟨by exact hat, trivial⟩ ?_
    refine pj_vret dX4_chooses_38 rfl ?_
    show _ = _ ∧ _ = _
    have e : fm_chooses m at_ v = sx_sI m 11 (upd (sx_I m 11) at_.toNatClampNeg v) := by unfold fm_chooses; rw [if_pos (show (sx_I m 9 at_.toNatClampNeg) = (4 : Int32) from hc7)]
    rw [e]
    try dsimp only
    exact ⟨rfl, rfl⟩
  · skip
    refine pj_J.go (oX4_chooses G) 6 rfl ⟨by exact hat, trivial⟩ ?_
    refine pj_J.ite (fun hc18 => ?_) (fun hc18 => ?_)
    · skip
      refine pj_J.go (oX4_chooses G) 6 rfl ⟨by exact hat, trivial⟩ ?_
      refine pj_vret dX4_chooses_38 rfl ?_
      show _ = _ ∧ _ = _
      have e : fm_chooses m at_ v = sx_sI m 11 (upd (sx_I m 11) at_.toNatClampNeg v) := by unfold fm_chooses; rw [if_neg (show ¬ ((sx_I m 9 at_.toNatClampNeg) = (4 : Int32)) from hc7), if_pos (show (sx_I m 9 at_.toNatClampNeg) = (6 : Int32) from hc18)]
      rw [e]
      try dsimp only
      exact ⟨rfl, rfl⟩
    · skip
      refine pj_J.go (oX4_chooses G) 5 rfl ⟨by exact hat, trivial⟩ ?_
      refine pj_vret dX4_chooses_38 rfl ?_
      show _ = _ ∧ _ = _
      have e : fm_chooses m at_ v = sx_sI m 12 (upd (sx_I m 12) at_.toNatClampNeg v) := by unfold fm_chooses; rw [if_neg (show ¬ ((sx_I m 9 at_.toNatClampNeg) = (4 : Int32)) from hc7), if_neg (show ¬ ((sx_I m 9 at_.toNatClampNeg) = (6 : Int32)) from hc18)]
      rw [e]
      try dsimp only
      exact ⟨rfl, rfl⟩
theorem fm_in_1M {x : Int32} (h : ¬ fm_in x 1 1000000 = 0) : 1 ≤ x.toInt ∧ x.toInt ≤ 1000000 := by
  unfold fm_in at h
  rw [pj_b_eq0] at h
  have h := Classical.not_not.mp h
  simp only [Int32.le_iff_toInt_le] at h
  exact h
theorem fm_rdNz {x y : Int32} (h1 : ¬ fm_in x 1 1000000 = 0) (h2 : ¬ fm_in y 1 1000000 = 0) : ¬ x.toInt64 * y.toInt64 = 0 := by
  have a := fm_in_1M h1
  have b := fm_in_1M h2
  intro e
  have e2 := congrArg Int64.toInt e
  rw [Int64.toInt_mul, Int32.toInt_toInt64, Int32.toInt_toInt64] at e2
  have h3 : x.toInt * y.toInt ≤ 1000000 * 1000000 := Int.mul_le_mul a.2 b.2 (by omega) (by omega)
  have h4 : 1 * 1 ≤ x.toInt * y.toInt := Int.mul_le_mul a.1 b.1 (by omega) (by omega)
  rw [Int.bmod_eq_of_le (by omega) (by omega)] at e2
  have e3 : (0 : Int64).toInt = 0 := rfl
  omega
def fm_rounded (m : sx_M) (n : Int64) (e : Int32) (u : Int32) (md : Int32) : Int64 × sx_M := if (fm_in e (1 : Int32) (1000000 : Int32)) = (0 : Int32) then ((0 : Int64), ((fm_isRefused m (0 : Int32)).2)) else (if (fm_in u (1 : Int32) (1000000 : Int32)) = (0 : Int32) then ((0 : Int64), ((fm_isRefused m (0 : Int32)).2)) else (if n < (-1000000000000 : Int64) then ((0 : Int64), ((fm_isRefused m (0 : Int32)).2)) else (if (1000000000000 : Int64) < n then ((0 : Int64), ((fm_isRefused m (0 : Int32)).2)) else (if (fm_in md (0 : Int32) (5 : Int32)) = (0 : Int32) then ((0 : Int64), ((fm_isRefused m (0 : Int32)).2)) else ((u.toInt64 * (fm_times n (e.toInt64 * u.toInt64) md)), ((fm_isRefused m (1 : Int32)).2))))))
theorem c_X4_rounded {G : pj_G} {d : Nat} {c : sx_C} {m : sx_M} {o : Nat → Int64} {D : pj_H} (n : Int64) (e : Int32) (u : Int32) (md : Int32)  : pj_Rt G mX4_rounded (d + 2) [.ref 59, .long n, .int e, .int u, .int md] (sx_mk c m o D) 0 0 (some (.long ((fm_rounded m n e u md).1))) (sx_mk c (fm_rounded m n e u md).2 o D) := by
  refine pj_Cn.start ?_
  refine pj_J.go (oX4_rounded G) 3 rfl trivial ?_
  refine pj_J.cal0 kX4_rounded_4 (c_X4_in e (1 : Int32) (1000000 : Int32)) trivial pj_le0 pj_le0 pj_le0 ?_
  refine pj_J.go (oX4_rounded G) 1 rfl trivial ?_
  refine pj_J.ite (fun hc7 => ?_) (fun hc7 => ?_)
  · skip
    refine pj_J.go (oX4_rounded G) 4 rfl trivial ?_
    refine pj_J.cal0 kX4_rounded_57 (c_X4_isRefused (m := m) (0 : Int32)) ⟨_, _, _, rfl, rfl⟩ pj_le0 pj_le0 pj_le0 ?_
    refine pj_J.go (oX4_rounded G) 1 rfl trivial ?_
    refine pj_J.neg (fun e => absurd (show (1 : Int32) = 0 from e) (by decide)) ?_
    refine pj_J.go (oX4_rounded G) 2 rfl trivial ?_
    refine pj_lret dX4_rounded_83 rfl ?_
    show _ = _ ∧ _ = _
    have e : fm_rounded m n e u md = ((0 : Int64), ((fm_isRefused m (0 : Int32)).2)) := by unfold fm_rounded; rw [if_pos (show (fm_in e (1 : Int32) (1000000 : Int32)) = (0 : Int32) from hc7)]
    rw [e]
    try dsimp only
    exact ⟨rfl, rfl⟩
  · skip
    refine pj_J.go (oX4_rounded G) 3 rfl trivial ?_
    refine pj_J.cal0 kX4_rounded_15 (c_X4_in u (1 : Int32) (1000000 : Int32)) trivial pj_le0 pj_le0 pj_le0 ?_
    refine pj_J.go (oX4_rounded G) 1 rfl trivial ?_
    refine pj_J.ite (fun hc18 => ?_) (fun hc18 => ?_)
    · skip
      refine pj_J.go (oX4_rounded G) 4 rfl trivial ?_
      refine pj_J.cal0 kX4_rounded_57 (c_X4_isRefused (m := m) (0 : Int32)) ⟨_, _, _, rfl, rfl⟩ pj_le0 pj_le0 pj_le0 ?_
      refine pj_J.go (oX4_rounded G) 1 rfl trivial ?_
      refine pj_J.neg (fun e => absurd (show (1 : Int32) = 0 from e) (by decide)) ?_
      refine pj_J.go (oX4_rounded G) 2 rfl trivial ?_
      refine pj_lret dX4_rounded_83 rfl ?_
      show _ = _ ∧ _ = _
      have e : fm_rounded m n e u md = ((0 : Int64), ((fm_isRefused m (0 : Int32)).2)) := by unfold fm_rounded; rw [if_neg (show ¬ ((fm_in e (1 : Int32) (1000000 : Int32)) = (0 : Int32)) from hc7), if_pos (show (fm_in u (1 : Int32) (1000000 : Int32)) = (0 : Int32) from hc18)]
      rw [e]
      try dsimp only
      exact ⟨rfl, rfl⟩
    · skip
      refine pj_J.go (oX4_rounded G) 4 rfl trivial ?_
      refine pj_J.ite (fun hc26 => ?_) (fun hc26 => ?_)
      · simp only [pj_lc_lt] at hc26
        refine pj_J.go (oX4_rounded G) 4 rfl trivial ?_
        refine pj_J.cal0 kX4_rounded_57 (c_X4_isRefused (m := m) (0 : Int32)) ⟨_, _, _, rfl, rfl⟩ pj_le0 pj_le0 pj_le0 ?_
        refine pj_J.go (oX4_rounded G) 1 rfl trivial ?_
        refine pj_J.neg (fun e => absurd (show (1 : Int32) = 0 from e) (by decide)) ?_
        refine pj_J.go (oX4_rounded G) 2 rfl trivial ?_
        refine pj_lret dX4_rounded_83 rfl ?_
        show _ = _ ∧ _ = _
        have e : fm_rounded m n e u md = ((0 : Int64), ((fm_isRefused m (0 : Int32)).2)) := by unfold fm_rounded; rw [if_neg (show ¬ ((fm_in e (1 : Int32) (1000000 : Int32)) = (0 : Int32)) from hc7), if_neg (show ¬ ((fm_in u (1 : Int32) (1000000 : Int32)) = (0 : Int32)) from hc18), if_pos (show n < (-1000000000000 : Int64) from hc26)]
        rw [e]
        try dsimp only
        exact ⟨rfl, rfl⟩
      · simp only [pj_lc_lt] at hc26
        refine pj_J.go (oX4_rounded G) 4 rfl trivial ?_
        refine pj_J.ite (fun hc34 => ?_) (fun hc34 => ?_)
        · simp only [pj_lc_gt] at hc34
          refine pj_J.go (oX4_rounded G) 4 rfl trivial ?_
          refine pj_J.cal0 kX4_rounded_57 (c_X4_isRefused (m := m) (0 : Int32)) ⟨_, _, _, rfl, rfl⟩ pj_le0 pj_le0 pj_le0 ?_
          refine pj_J.go (oX4_rounded G) 1 rfl trivial ?_
          refine pj_J.neg (fun e => absurd (show (1 : Int32) = 0 from e) (by decide)) ?_
          refine pj_J.go (oX4_rounded G) 2 rfl trivial ?_
          refine pj_lret dX4_rounded_83 rfl ?_
          show _ = _ ∧ _ = _
          have e : fm_rounded m n e u md = ((0 : Int64), ((fm_isRefused m (0 : Int32)).2)) := by unfold fm_rounded; rw [if_neg (show ¬ ((fm_in e (1 : Int32) (1000000 : Int32)) = (0 : Int32)) from hc7), if_neg (show ¬ ((fm_in u (1 : Int32) (1000000 : Int32)) = (0 : Int32)) from hc18), if_neg (show ¬ (n < (-1000000000000 : Int64)) from hc26), if_pos (show (1000000000000 : Int64) < n from hc34)]
          rw [e]
          try dsimp only
          exact ⟨rfl, rfl⟩
        · simp only [pj_lc_gt] at hc34
          refine pj_J.go (oX4_rounded G) 3 rfl trivial ?_
          refine pj_J.cal0 kX4_rounded_41 (c_X4_in md (0 : Int32) (5 : Int32)) trivial pj_le0 pj_le0 pj_le0 ?_
          refine pj_J.go (oX4_rounded G) 1 rfl trivial ?_
          refine pj_J.ite (fun hc44 => ?_) (fun hc44 => ?_)
          · skip
            refine pj_J.go (oX4_rounded G) 4 rfl trivial ?_
            refine pj_J.cal0 kX4_rounded_57 (c_X4_isRefused (m := m) (0 : Int32)) ⟨_, _, _, rfl, rfl⟩ pj_le0 pj_le0 pj_le0 ?_
            refine pj_J.go (oX4_rounded G) 1 rfl trivial ?_
            refine pj_J.neg (fun e => absurd (show (1 : Int32) = 0 from e) (by decide)) ?_
            refine pj_J.go (oX4_rounded G) 2 rfl trivial ?_
            refine pj_lret dX4_rounded_83 rfl ?_
            show _ = _ ∧ _ = _
            have e : fm_rounded m n e u md = ((0 : Int64), ((fm_isRefused m (0 : Int32)).2)) := by unfold fm_rounded; rw [if_neg (show ¬ ((fm_in e (1 : Int32) (1000000 : Int32)) = (0 : Int32)) from hc7), if_neg (show ¬ ((fm_in u (1 : Int32) (1000000 : Int32)) = (0 : Int32)) from hc18), if_neg (show ¬ (n < (-1000000000000 : Int64)) from hc26), if_neg (show ¬ ((1000000000000 : Int64) < n) from hc34), if_pos (show (fm_in md (0 : Int32) (5 : Int32)) = (0 : Int32) from hc44)]
            rw [e]
            try dsimp only
            exact ⟨rfl, rfl⟩
          · skip
            refine pj_J.go (oX4_rounded G) 5 rfl trivial ?_
            refine pj_J.cal0 kX4_rounded_57 (c_X4_isRefused (m := m) (1 : Int32)) ⟨_, _, _, rfl, rfl⟩ pj_le0 pj_le0 pj_le0 ?_
            refine pj_J.go (oX4_rounded G) 1 rfl trivial ?_
            refine pj_J.pos (rfl) ?_
            refine pj_J.go (oX4_rounded G) 9 rfl trivial ?_
            refine pj_J.cal0 kX4_rounded_79 (c_X4_times n (e.toInt64 * u.toInt64) md (fm_rdNz hc7 hc18)) trivial pj_le0 pj_le0 pj_le0 ?_
            refine pj_J.go (oX4_rounded G) 1 rfl trivial ?_
            refine pj_lret dX4_rounded_83 rfl ?_
            show _ = _ ∧ _ = _
            have e : fm_rounded m n e u md = ((u.toInt64 * (fm_times n (e.toInt64 * u.toInt64) md)), ((fm_isRefused m (1 : Int32)).2)) := by unfold fm_rounded; rw [if_neg (show ¬ ((fm_in e (1 : Int32) (1000000 : Int32)) = (0 : Int32)) from hc7), if_neg (show ¬ ((fm_in u (1 : Int32) (1000000 : Int32)) = (0 : Int32)) from hc18), if_neg (show ¬ (n < (-1000000000000 : Int64)) from hc26), if_neg (show ¬ ((1000000000000 : Int64) < n) from hc34), if_neg (show ¬ ((fm_in md (0 : Int32) (5 : Int32)) = (0 : Int32)) from hc44)]
            rw [e]
            try dsimp only
            exact ⟨rfl, rfl⟩
def fm_smB (m : sx_M) (p q : Int32) (k : Nat) : Int32 := if (sx_I m 9 (((20 : Int32) * p) + (nI k)).toNatClampNeg) = (sx_I m 9 (((20 : Int32) * q) + (nI k)).toNatClampNeg) then (if (sx_I m 10 (((20 : Int32) * p) + (nI k)).toNatClampNeg) = (sx_I m 10 (((20 : Int32) * q) + (nI k)).toNatClampNeg) then (if (sx_I m 11 (((20 : Int32) * p) + (nI k)).toNatClampNeg) = (sx_I m 11 (((20 : Int32) * q) + (nI k)).toNatClampNeg) then (if (sx_I m 12 (((20 : Int32) * p) + (nI k)).toNatClampNeg) = (sx_I m 12 (((20 : Int32) * q) + (nI k)).toNatClampNeg) then (1 : Int32) else (0 : Int32)) else (0 : Int32)) else (0 : Int32)) else (0 : Int32)
theorem ly_fm_smB {G : pj_G} {d : Nat} {c : sx_C} {m : sx_M} {o : Nat → Int64} {D : pj_H} {Q : pj_O → pj_H → Prop} (p q f : Int32) (k : Nat) (hp : vp_in p 4) (hq : vp_in q 4) (n : Nat) (hn : sx_I m 8 p.toNatClampNeg = nI n) (hn20 : n ≤ 20) (hk : k < n) (hk20 : k < 20) (hf : ¬ f = 0) (kk : pj_J G mX4_same (d) 42 [some (.ref 59), some (.int p), some (.int q), some (.int (fm_smB m p q k)), some (.int (nI k + 1)), none, none] [] (sx_mk c m o D) 0 0 Q) : pj_J G mX4_same (d) 42 [some (.ref 59), some (.int p), some (.int q), some (.int f), some (.int (nI k)), none, none] [] (sx_mk c m o D) 0 0 Q := by
  unfold fm_smB at kk
  refine pj_J.go (oX4_same G) 6 rfl ⟨by exact hp, trivial⟩ ?_
  refine pj_J.neg (by rw [hn]; exact nI_lt_lit hk (by omega)) ?_
  refine pj_J.go (oX4_same G) 2 rfl trivial ?_
  refine pj_J.neg (hf) ?_
  refine pj_J.go (oX4_same G) 21 rfl ⟨by exact vp_row (p := 4) (q := 20) hp (vp_in_lit hk20) (by decide), by exact vp_row (p := 4) (q := 20) hq (vp_in_lit hk20) (by decide), trivial⟩ ?_
  refine pj_J.ite (fun hc89 => ?_) (fun hc89 => ?_)
  · skip
    refine pj_J.go (oX4_same G) 9 rfl ⟨by exact vp_row (p := 4) (q := 20) hp (vp_in_lit hk20) (by decide), by exact vp_row (p := 4) (q := 20) hq (vp_in_lit hk20) (by decide), trivial⟩ ?_
    refine pj_J.ite (fun hc106 => ?_) (fun hc106 => ?_)
    · skip
      refine pj_J.go (oX4_same G) 9 rfl ⟨by exact vp_row (p := 4) (q := 20) hp (vp_in_lit hk20) (by decide), by exact vp_row (p := 4) (q := 20) hq (vp_in_lit hk20) (by decide), trivial⟩ ?_
      refine pj_J.ite (fun hc123 => ?_) (fun hc123 => ?_)
      · skip
        refine pj_J.go (oX4_same G) 9 rfl ⟨by exact vp_row (p := 4) (q := 20) hp (vp_in_lit hk20) (by decide), by exact vp_row (p := 4) (q := 20) hq (vp_in_lit hk20) (by decide), trivial⟩ ?_
        refine pj_J.ite (fun hc140 => ?_) (fun hc140 => ?_)
        · skip
          refine pj_J.go (oX4_same G) 5 rfl trivial ?_
          rw [if_pos (show (sx_I m 9 (((20 : Int32) * p) + (nI k)).toNatClampNeg) = (sx_I m 9 (((20 : Int32) * q) + (nI k)).toNatClampNeg) from hc89), if_pos (show (sx_I m 10 (((20 : Int32) * p) + (nI k)).toNatClampNeg) = (sx_I m 10 (((20 : Int32) * q) + (nI k)).toNatClampNeg) from hc106), if_pos (show (sx_I m 11 (((20 : Int32) * p) + (nI k)).toNatClampNeg) = (sx_I m 11 (((20 : Int32) * q) + (nI k)).toNatClampNeg) from hc123), if_pos (show (sx_I m 12 (((20 : Int32) * p) + (nI k)).toNatClampNeg) = (sx_I m 12 (((20 : Int32) * q) + (nI k)).toNatClampNeg) from hc140)] at kk
          exact pj_J.drp kk ⟨rfl, rfl, rfl, rfl, rfl, trivial⟩
        · skip
          refine pj_J.go (oX4_same G) 4 rfl trivial ?_
          rw [if_pos (show (sx_I m 9 (((20 : Int32) * p) + (nI k)).toNatClampNeg) = (sx_I m 9 (((20 : Int32) * q) + (nI k)).toNatClampNeg) from hc89), if_pos (show (sx_I m 10 (((20 : Int32) * p) + (nI k)).toNatClampNeg) = (sx_I m 10 (((20 : Int32) * q) + (nI k)).toNatClampNeg) from hc106), if_pos (show (sx_I m 11 (((20 : Int32) * p) + (nI k)).toNatClampNeg) = (sx_I m 11 (((20 : Int32) * q) + (nI k)).toNatClampNeg) from hc123), if_neg (show ¬ ((sx_I m 12 (((20 : Int32) * p) + (nI k)).toNatClampNeg) = (sx_I m 12 (((20 : Int32) * q) + (nI k)).toNatClampNeg)) from hc140)] at kk
          exact pj_J.drp kk ⟨rfl, rfl, rfl, rfl, rfl, trivial⟩
      · skip
        refine pj_J.go (oX4_same G) 4 rfl trivial ?_
        rw [if_pos (show (sx_I m 9 (((20 : Int32) * p) + (nI k)).toNatClampNeg) = (sx_I m 9 (((20 : Int32) * q) + (nI k)).toNatClampNeg) from hc89), if_pos (show (sx_I m 10 (((20 : Int32) * p) + (nI k)).toNatClampNeg) = (sx_I m 10 (((20 : Int32) * q) + (nI k)).toNatClampNeg) from hc106), if_neg (show ¬ ((sx_I m 11 (((20 : Int32) * p) + (nI k)).toNatClampNeg) = (sx_I m 11 (((20 : Int32) * q) + (nI k)).toNatClampNeg)) from hc123)] at kk
        exact pj_J.drp kk ⟨rfl, rfl, rfl, rfl, rfl, trivial⟩
    · skip
      refine pj_J.go (oX4_same G) 4 rfl trivial ?_
      rw [if_pos (show (sx_I m 9 (((20 : Int32) * p) + (nI k)).toNatClampNeg) = (sx_I m 9 (((20 : Int32) * q) + (nI k)).toNatClampNeg) from hc89), if_neg (show ¬ ((sx_I m 10 (((20 : Int32) * p) + (nI k)).toNatClampNeg) = (sx_I m 10 (((20 : Int32) * q) + (nI k)).toNatClampNeg)) from hc106)] at kk
      exact pj_J.drp kk ⟨rfl, rfl, rfl, rfl, rfl, trivial⟩
  · skip
    refine pj_J.go (oX4_same G) 4 rfl trivial ?_
    rw [if_neg (show ¬ ((sx_I m 9 (((20 : Int32) * p) + (nI k)).toNatClampNeg) = (sx_I m 9 (((20 : Int32) * q) + (nI k)).toNatClampNeg)) from hc89)] at kk
    exact pj_J.drp kk ⟨rfl, rfl, rfl, rfl, rfl, trivial⟩
theorem lz_fm_smB {G : pj_G} {d : Nat} {c : sx_C} {m : sx_M} {o : Nat → Int64} {D : pj_H} {Q : pj_O → pj_H → Prop} (p q f : Int32) (k : Nat) (hp : vp_in p 4) (hq : vp_in q 4) (n : Nat) (hn : sx_I m 8 p.toNatClampNeg = nI n) (hn20 : n ≤ 20) (hx : f = 0 ∨ k = n) (hk20 : k < 21) (q1 : f = 0 → Q (.inl (some (.int 0))) (sx_mk c m o D)) (q2 : ¬ f = 0 → Q (.inl (some (.int 1))) (sx_mk c m o D)) : pj_J G mX4_same (d) 42 [some (.ref 59), some (.int p), some (.int q), some (.int f), some (.int (nI k)), none, none] [] (sx_mk c m o D) 0 0 Q := by
  refine pj_J.go (oX4_same G) 6 rfl ⟨by exact hp, trivial⟩ ?_
  refine pj_J.ite (fun hc50 => ?_) (fun hc50 => ?_)
  · skip
    refine pj_J.go (oX4_same G) 2 rfl trivial ?_
    refine pj_J.ite (fun hc156 => ?_) (fun hc156 => ?_)
    · skip
      refine pj_J.go (oX4_same G) 1 rfl trivial ?_
      exact pj_iret dX4_same_164 rfl (q1 (by assumption))
    · skip
      refine pj_J.go (oX4_same G) 2 rfl trivial ?_
      exact pj_iret dX4_same_164 rfl (q2 (by assumption))
  · skip
    refine pj_J.go (oX4_same G) 2 rfl trivial ?_
    refine pj_J.ite (fun hc54 => ?_) (fun hc54 => ?_)
    · skip
      refine pj_J.go (oX4_same G) 2 rfl trivial ?_
      refine pj_J.pos (hc54) ?_
      refine pj_J.go (oX4_same G) 1 rfl trivial ?_
      exact pj_iret dX4_same_164 rfl (q1 (by assumption))
    · skip
      exfalso
      rcases hx with hx | hx
      · exact hc54 hx
      · subst hx; rw [hn] at hc50; exact hc50 (nI_ge_lit (Nat.le_refl _) (by omega))
def fm_smL (m : sx_M) (p q : Int32) : Nat → Nat → Int32 → Int32
  | 0, _, f => f
  | e + 1, k, f => if f = 0 then f else fm_smL m p q e (k + 1) (fm_smB m p q k)
theorem lp_fm_sm {G : pj_G} {d : Nat} {c : sx_C} {m : sx_M} {o : Nat → Int64} {D : pj_H} {Q : pj_O → pj_H → Prop} (p q : Int32) (hp : vp_in p 4) (hq : vp_in q 4) (n : Nat) (hn : sx_I m 8 p.toNatClampNeg = nI n) (hn20 : n ≤ 20) : ∀ (e k : Nat) (f : Int32), k + e = n → Q (.inl (some (.int (if fm_smL m p q e k f = 0 then 0 else 1)))) (sx_mk c m o D) → pj_J G mX4_same d 42 [some (.ref 59), some (.int p), some (.int q), some (.int f), some (.int (nI k)), none, none] [] (sx_mk c m o D) 0 0 Q := by
  intro e
  induction e with
  | zero =>
    intro k f hk hQ
    have hkn : k = n := by omega
    exact lz_fm_smB p q f k hp hq n hn hn20 (Or.inr hkn) (by omega) (fun h => by unfold fm_smL at hQ; rw [if_pos h] at hQ; exact hQ) (fun h => by unfold fm_smL at hQ; rw [if_neg h] at hQ; exact hQ)
  | succ e ih =>
    intro k f hk hQ
    by_cases h : f = 0
    · unfold fm_smL at hQ
      rw [if_pos h, if_pos h] at hQ
      exact lz_fm_smB p q f k hp hq n hn hn20 (Or.inl h) (by omega) (fun _ => hQ) (fun h2 => absurd h h2)
    · unfold fm_smL at hQ
      rw [if_neg h] at hQ
      exact ly_fm_smB p q f k hp hq n hn hn20 (by omega) (by omega) h (by rw [nI_add1]; exact ih (k + 1) _ (by omega) hQ)
def fm_same (m : sx_M) (p q : Int32) : Int32 := if fm_isProgram m p = 0 then -1 else if fm_isProgram m q = 0 then -1 else if fm_smL m p q (sx_I m 8 p.toNatClampNeg).toNatClampNeg 0 (if sx_I m 8 p.toNatClampNeg = sx_I m 8 q.toNatClampNeg then 1 else 0) = 0 then 0 else 1
theorem c_X4_same {G : pj_G} {d : Nat} {c : sx_C} {m : sx_M} {o : Nat → Int64} {D : pj_H} (p q : Int32) (hp : vp_in (sx_i m 7) 5) (ha : ∀ k, k < 4 → vp_in (sx_I m 8 k) 21) : pj_Rt G mX4_same (d + 2) [.ref 59, .int p, .int q] (sx_mk c m o D) 0 0 (some (.int (fm_same m p q))) (sx_mk c m o D) := by
  refine pj_Cn.start ?_
  refine pj_J.go (oX4_same G) 2 rfl trivial ?_
  refine pj_J.cal0 kX4_same_2 (c_X4_isProgram (m := m) p) ⟨_, _, _, rfl, rfl⟩ pj_le0 pj_le0 pj_le0 ?_
  refine pj_J.go (oX4_same G) 1 rfl trivial ?_
  refine pj_J.ite (fun hc5 => ?_) (fun hc5 => ?_)
  · skip
    refine pj_J.go (oX4_same G) 1 rfl trivial ?_
    refine pj_iret dX4_same_17 rfl ?_
    show _ = _ ∧ _ = _
    unfold fm_same
    rw [if_pos (show (fm_isProgram m p) = (0 : Int32) from hc5)]
    exact ⟨rfl, rfl⟩
  · skip
    refine pj_J.go (oX4_same G) 2 rfl trivial ?_
    refine pj_J.cal0 kX4_same_10 (c_X4_isProgram (m := m) q) ⟨_, _, _, rfl, rfl⟩ pj_le0 pj_le0 pj_le0 ?_
    refine pj_J.go (oX4_same G) 1 rfl trivial ?_
    refine pj_J.ite (fun hc13 => ?_) (fun hc13 => ?_)
    · skip
      refine pj_J.go (oX4_same G) 1 rfl trivial ?_
      refine pj_iret dX4_same_17 rfl ?_
      show _ = _ ∧ _ = _
      unfold fm_same
      rw [if_neg (show ¬ ((fm_isProgram m p) = (0 : Int32)) from hc5), if_pos (show (fm_isProgram m q) = (0 : Int32) from hc13)]
      exact ⟨rfl, rfl⟩
    · skip
      refine pj_J.go (oX4_same G) 9 rfl ⟨by exact fm_isProgram_vp hp hc5, by exact fm_isProgram_vp hp hc13, trivial⟩ ?_
      refine pj_J.ite (fun hc30 => ?_) (fun hc30 => ?_)
      · skip
        refine pj_J.go (oX4_same G) 5 rfl trivial ?_
        obtain ⟨n, hn1, hn2⟩ := vp_in_of (ha _ (vp_lt (fm_isProgram_vp hp hc5))) (by decide)
        refine pj_J.drop (L' := [some (.ref 59), some (.int p), some (.int q), some (.int (1 : Int32)), some (.int (nI 0)), none, none]) ⟨rfl, rfl, rfl, rfl, rfl, trivial⟩ ?_
        refine lp_fm_sm p q (fm_isProgram_vp hp hc5) (fm_isProgram_vp hp hc13) n hn2 (by omega) n 0 _ (by omega) ?_
        show _ = _ ∧ _ = _
        unfold fm_same
        rw [if_neg (show ¬ ((fm_isProgram m p) = (0 : Int32)) from hc5), if_neg (show ¬ ((fm_isProgram m q) = (0 : Int32)) from hc13), if_pos (show (sx_I m 8 p.toNatClampNeg) = (sx_I m 8 q.toNatClampNeg) from hc30), hn2, nI_clamp (by omega)]
        refine ⟨?_, rfl⟩
        rfl
      · skip
        refine pj_J.go (oX4_same G) 4 rfl trivial ?_
        obtain ⟨n, hn1, hn2⟩ := vp_in_of (ha _ (vp_lt (fm_isProgram_vp hp hc5))) (by decide)
        refine pj_J.drop (L' := [some (.ref 59), some (.int p), some (.int q), some (.int (0 : Int32)), some (.int (nI 0)), none, none]) ⟨rfl, rfl, rfl, rfl, rfl, trivial⟩ ?_
        refine lp_fm_sm p q (fm_isProgram_vp hp hc5) (fm_isProgram_vp hp hc13) n hn2 (by omega) n 0 _ (by omega) ?_
        show _ = _ ∧ _ = _
        unfold fm_same
        rw [if_neg (show ¬ ((fm_isProgram m p) = (0 : Int32)) from hc5), if_neg (show ¬ ((fm_isProgram m q) = (0 : Int32)) from hc13), if_neg (show ¬ ((sx_I m 8 p.toNatClampNeg) = (sx_I m 8 q.toNatClampNeg)) from hc30), hn2, nI_clamp (by omega)]
        refine ⟨?_, rfl⟩
        rfl
