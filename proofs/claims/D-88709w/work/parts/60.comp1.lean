/-! PennyJudge: small methods (by tools/gen_p1.py) -/
set_option maxRecDepth 100000
theorem vp_rng {x : Int32} {n : Nat} (h0 : ¬ x < 0) (h1 : ¬ nI n < x) (hn : n + 1 < 2 ^ 31 := by decide) : vp_in x (n + 1) := by
  obtain ⟨j, hj, rfl⟩ := nI_of h0
  refine vp_in_nI ?_ hn
  rw [nI_ltI (by omega) hj] at h1
  omega
theorem vp_rng2 {x y : Int32} {n : Nat} (h0 : ¬ x < 0) (h1 : ¬ y ≤ x) (hy : vp_in y (n + 1)) (hn : n + 1 < 2 ^ 31 := by decide) : vp_in x n := by
  obtain ⟨j, hj, rfl⟩ := nI_of h0
  obtain ⟨i, hi, rfl⟩ := vp_in_of hy hn
  refine vp_in_nI ?_ (by omega)
  rw [nI_leI (by omega) hj] at h1
  omega
def fc_floor (a : Int64) (b : Int64) : Int64 := if (0 : Int64) ≤ (a - a / b * b) then (a / b) else ((a / b) - (1 : Int64))
theorem c_X1_floorOf {G : pj_G} {d : Nat} {c : sx_C} {m : sx_M} {o : Nat → Int64} {D : pj_H} (a : Int64) (b : Int64) (hb : ¬ b = 0) : pj_Rt G mX1_floorOf (d) [.long a, .long b] (sx_mk c m o D) 0 0 (some (.long (fc_floor a b))) (sx_mk c m o D) := by
  refine pj_Cn.start ?_
  refine pj_J.go (oX1_floorOf G) 10 rfl ⟨by exact hb, by exact hb, trivial⟩ ?_
  refine pj_J.ite (fun hc10 => ?_) (fun hc10 => ?_)
  · simp only [pj_lc_ge] at hc10
    refine pj_J.go (oX1_floorOf G) 1 rfl trivial ?_
    refine pj_lret dX1_floorOf_22 rfl ?_
    show _ = _ ∧ _ = _
    have e : fc_floor a b = (a / b) := by unfold fc_floor; rw [if_pos (show (0 : Int64) ≤ (a - a / b * b) from hc10)]
    rw [e]
    try dsimp only
    exact ⟨rfl, rfl⟩
  · simp only [pj_lc_ge] at hc10
    refine pj_J.go (oX1_floorOf G) 4 rfl trivial ?_
    refine pj_lret dX1_floorOf_22 rfl ?_
    show _ = _ ∧ _ = _
    have e : fc_floor a b = ((a / b) - (1 : Int64)) := by unfold fc_floor; rw [if_neg (show ¬ ((0 : Int64) ≤ (a - a / b * b)) from hc10)]
    rw [e]
    try dsimp only
    exact ⟨rfl, rfl⟩
def fc_whole (n : Int64) (b : Int64) (md : Int32) : Int64 := if (n - ((fc_floor n b) * b)) = (0 : Int64) then (fc_floor n b) else (if md = (0 : Int32) then (if ((2 : Int64) * (n - ((fc_floor n b) * b))) = b then (if n ≤ (0 : Int64) then (fc_floor n b) else ((fc_floor n b) + (1 : Int64))) else (if ((2 : Int64) * (n - ((fc_floor n b) * b))) ≤ b then (fc_floor n b) else ((fc_floor n b) + (1 : Int64)))) else (if md = (1 : Int32) then (if ((2 : Int64) * (n - ((fc_floor n b) * b))) = b then (if ((fc_floor n b) &&& (1 : Int64)) = (0 : Int64) then (fc_floor n b) else ((fc_floor n b) + (1 : Int64))) else (if ((2 : Int64) * (n - ((fc_floor n b) * b))) ≤ b then (fc_floor n b) else ((fc_floor n b) + (1 : Int64)))) else (if md = (2 : Int32) then (if n ≤ (0 : Int64) then ((fc_floor n b) + (1 : Int64)) else (fc_floor n b)) else (if md = (3 : Int32) then (if n ≤ (0 : Int64) then (fc_floor n b) else ((fc_floor n b) + (1 : Int64))) else (if md = (4 : Int32) then (fc_floor n b) else (((fc_floor n b) + (1 : Int64))))))))
theorem c_X1_whole {G : pj_G} {d : Nat} {c : sx_C} {m : sx_M} {o : Nat → Int64} {D : pj_H} (n : Int64) (b : Int64) (md : Int32) (hb : ¬ b = 0) : pj_Rt G mX1_whole (d + 1) [.long n, .long b, .int md] (sx_mk c m o D) 0 0 (some (.long (fc_whole n b md))) (sx_mk c m o D) := by
  refine pj_Cn.start ?_
  refine pj_J.go (oX1_whole G) 2 rfl trivial ?_
  refine pj_J.cal0 kX1_whole_2 (c_X1_floorOf n b hb) trivial pj_le0 pj_le0 pj_le0 ?_
  refine pj_J.go (oX1_whole G) 11 rfl trivial ?_
  refine pj_J.ite (fun hc19 => ?_) (fun hc19 => ?_)
  · simp only [pj_lc_eq] at hc19
    refine pj_J.go (oX1_whole G) 1 rfl trivial ?_
    refine pj_lret dX1_whole_24 rfl ?_
    show _ = _ ∧ _ = _
    have e : fc_whole n b md = (fc_floor n b) := by unfold fc_whole; rw [if_pos (show (n - ((fc_floor n b) * b)) = (0 : Int64) from hc19)]
    rw [e]
    try dsimp only
    exact ⟨rfl, rfl⟩
  · simp only [pj_lc_eq] at hc19
    refine pj_J.go (oX1_whole G) 2 rfl trivial ?_
    refine pj_J.swc (fun hs27_0 => ?_) (fun hs27_0 => ?_)
    · skip
      refine pj_J.go (oX1_whole G) 6 rfl trivial ?_
      refine pj_J.ite (fun hc68 => ?_) (fun hc68 => ?_)
      · simp only [pj_lc_eq] at hc68
        refine pj_J.go (oX1_whole G) 4 rfl trivial ?_
        refine pj_J.ite (fun hc74 => ?_) (fun hc74 => ?_)
        · simp only [pj_lc_le] at hc74
          refine pj_J.go (oX1_whole G) 1 rfl trivial ?_
          refine pj_lret dX1_whole_86 rfl ?_
          show _ = _ ∧ _ = _
          have e : fc_whole n b md = (fc_floor n b) := by unfold fc_whole; rw [if_neg (show ¬ ((n - ((fc_floor n b) * b)) = (0 : Int64)) from hc19), if_pos (show md = (0 : Int32) from hs27_0), if_pos (show ((2 : Int64) * (n - ((fc_floor n b) * b))) = b from hc68), if_pos (show n ≤ (0 : Int64) from hc74)]
          rw [e]
          try dsimp only
          exact ⟨rfl, rfl⟩
        · simp only [pj_lc_le] at hc74
          refine pj_J.go (oX1_whole G) 4 rfl trivial ?_
          refine pj_lret dX1_whole_86 rfl ?_
          show _ = _ ∧ _ = _
          have e : fc_whole n b md = ((fc_floor n b) + (1 : Int64)) := by unfold fc_whole; rw [if_neg (show ¬ ((n - ((fc_floor n b) * b)) = (0 : Int64)) from hc19), if_pos (show md = (0 : Int32) from hs27_0), if_pos (show ((2 : Int64) * (n - ((fc_floor n b) * b))) = b from hc68), if_neg (show ¬ (n ≤ (0 : Int64)) from hc74)]
          rw [e]
          try dsimp only
          exact ⟨rfl, rfl⟩
      · simp only [pj_lc_eq] at hc68
        refine pj_J.go (oX1_whole G) 6 rfl trivial ?_
        refine pj_J.ite (fun hc95 => ?_) (fun hc95 => ?_)
        · simp only [pj_lc_le] at hc95
          refine pj_J.go (oX1_whole G) 1 rfl trivial ?_
          refine pj_lret dX1_whole_107 rfl ?_
          show _ = _ ∧ _ = _
          have e : fc_whole n b md = (fc_floor n b) := by unfold fc_whole; rw [if_neg (show ¬ ((n - ((fc_floor n b) * b)) = (0 : Int64)) from hc19), if_pos (show md = (0 : Int32) from hs27_0), if_neg (show ¬ (((2 : Int64) * (n - ((fc_floor n b) * b))) = b) from hc68), if_pos (show ((2 : Int64) * (n - ((fc_floor n b) * b))) ≤ b from hc95)]
          rw [e]
          try dsimp only
          exact ⟨rfl, rfl⟩
        · simp only [pj_lc_le] at hc95
          refine pj_J.go (oX1_whole G) 4 rfl trivial ?_
          refine pj_lret dX1_whole_107 rfl ?_
          show _ = _ ∧ _ = _
          have e : fc_whole n b md = ((fc_floor n b) + (1 : Int64)) := by unfold fc_whole; rw [if_neg (show ¬ ((n - ((fc_floor n b) * b)) = (0 : Int64)) from hc19), if_pos (show md = (0 : Int32) from hs27_0), if_neg (show ¬ (((2 : Int64) * (n - ((fc_floor n b) * b))) = b) from hc68), if_neg (show ¬ (((2 : Int64) * (n - ((fc_floor n b) * b))) ≤ b) from hc95)]
          rw [e]
          try dsimp only
          exact ⟨rfl, rfl⟩
    refine pj_J.swc (fun hs27_1 => ?_) (fun hs27_1 => ?_)
    · skip
      refine pj_J.go (oX1_whole G) 6 rfl trivial ?_
      refine pj_J.ite (fun hc116 => ?_) (fun hc116 => ?_)
      · simp only [pj_lc_eq] at hc116
        refine pj_J.go (oX1_whole G) 6 rfl trivial ?_
        refine pj_J.ite (fun hc125 => ?_) (fun hc125 => ?_)
        · simp only [pj_lc_eq] at hc125
          refine pj_J.go (oX1_whole G) 2 rfl trivial ?_
          refine pj_lret dX1_whole_137 rfl ?_
          show _ = _ ∧ _ = _
          have e : fc_whole n b md = (fc_floor n b) := by unfold fc_whole; rw [if_neg (show ¬ ((n - ((fc_floor n b) * b)) = (0 : Int64)) from hc19), if_neg (show ¬ (md = (0 : Int32)) from hs27_0), if_pos (show md = (1 : Int32) from hs27_1), if_pos (show ((2 : Int64) * (n - ((fc_floor n b) * b))) = b from hc116), if_pos (show ((fc_floor n b) &&& (1 : Int64)) = (0 : Int64) from hc125)]
          rw [e]
          try dsimp only
          exact ⟨rfl, rfl⟩
        · simp only [pj_lc_eq] at hc125
          refine pj_J.go (oX1_whole G) 3 rfl trivial ?_
          refine pj_lret dX1_whole_137 rfl ?_
          show _ = _ ∧ _ = _
          have e : fc_whole n b md = ((fc_floor n b) + (1 : Int64)) := by unfold fc_whole; rw [if_neg (show ¬ ((n - ((fc_floor n b) * b)) = (0 : Int64)) from hc19), if_neg (show ¬ (md = (0 : Int32)) from hs27_0), if_pos (show md = (1 : Int32) from hs27_1), if_pos (show ((2 : Int64) * (n - ((fc_floor n b) * b))) = b from hc116), if_neg (show ¬ (((fc_floor n b) &&& (1 : Int64)) = (0 : Int64)) from hc125)]
          rw [e]
          try dsimp only
          exact ⟨rfl, rfl⟩
      · simp only [pj_lc_eq] at hc116
        refine pj_J.go (oX1_whole G) 6 rfl trivial ?_
        refine pj_J.ite (fun hc146 => ?_) (fun hc146 => ?_)
        · simp only [pj_lc_le] at hc146
          refine pj_J.go (oX1_whole G) 1 rfl trivial ?_
          refine pj_lret dX1_whole_158 rfl ?_
          show _ = _ ∧ _ = _
          have e : fc_whole n b md = (fc_floor n b) := by unfold fc_whole; rw [if_neg (show ¬ ((n - ((fc_floor n b) * b)) = (0 : Int64)) from hc19), if_neg (show ¬ (md = (0 : Int32)) from hs27_0), if_pos (show md = (1 : Int32) from hs27_1), if_neg (show ¬ (((2 : Int64) * (n - ((fc_floor n b) * b))) = b) from hc116), if_pos (show ((2 : Int64) * (n - ((fc_floor n b) * b))) ≤ b from hc146)]
          rw [e]
          try dsimp only
          exact ⟨rfl, rfl⟩
        · simp only [pj_lc_le] at hc146
          refine pj_J.go (oX1_whole G) 4 rfl trivial ?_
          refine pj_lret dX1_whole_158 rfl ?_
          show _ = _ ∧ _ = _
          have e : fc_whole n b md = ((fc_floor n b) + (1 : Int64)) := by unfold fc_whole; rw [if_neg (show ¬ ((n - ((fc_floor n b) * b)) = (0 : Int64)) from hc19), if_neg (show ¬ (md = (0 : Int32)) from hs27_0), if_pos (show md = (1 : Int32) from hs27_1), if_neg (show ¬ (((2 : Int64) * (n - ((fc_floor n b) * b))) = b) from hc116), if_neg (show ¬ (((2 : Int64) * (n - ((fc_floor n b) * b))) ≤ b) from hc146)]
          rw [e]
          try dsimp only
          exact ⟨rfl, rfl⟩
    refine pj_J.swc (fun hs27_2 => ?_) (fun hs27_2 => ?_)
    · skip
      refine pj_J.go (oX1_whole G) 4 rfl trivial ?_
      refine pj_J.ite (fun hc162 => ?_) (fun hc162 => ?_)
      · simp only [pj_lc_le] at hc162
        refine pj_J.go (oX1_whole G) 3 rfl trivial ?_
        refine pj_lret dX1_whole_174 rfl ?_
        show _ = _ ∧ _ = _
        have e : fc_whole n b md = ((fc_floor n b) + (1 : Int64)) := by unfold fc_whole; rw [if_neg (show ¬ ((n - ((fc_floor n b) * b)) = (0 : Int64)) from hc19), if_neg (show ¬ (md = (0 : Int32)) from hs27_0), if_neg (show ¬ (md = (1 : Int32)) from hs27_1), if_pos (show md = (2 : Int32) from hs27_2), if_pos (show n ≤ (0 : Int64) from hc162)]
        rw [e]
        try dsimp only
        exact ⟨rfl, rfl⟩
      · simp only [pj_lc_le] at hc162
        refine pj_J.go (oX1_whole G) 2 rfl trivial ?_
        refine pj_lret dX1_whole_174 rfl ?_
        show _ = _ ∧ _ = _
        have e : fc_whole n b md = (fc_floor n b) := by unfold fc_whole; rw [if_neg (show ¬ ((n - ((fc_floor n b) * b)) = (0 : Int64)) from hc19), if_neg (show ¬ (md = (0 : Int32)) from hs27_0), if_neg (show ¬ (md = (1 : Int32)) from hs27_1), if_pos (show md = (2 : Int32) from hs27_2), if_neg (show ¬ (n ≤ (0 : Int64)) from hc162)]
        rw [e]
        try dsimp only
        exact ⟨rfl, rfl⟩
    refine pj_J.swc (fun hs27_3 => ?_) (fun hs27_3 => ?_)
    · skip
      refine pj_J.go (oX1_whole G) 4 rfl trivial ?_
      refine pj_J.ite (fun hc178 => ?_) (fun hc178 => ?_)
      · simp only [pj_lc_le] at hc178
        refine pj_J.go (oX1_whole G) 1 rfl trivial ?_
        refine pj_lret dX1_whole_190 rfl ?_
        show _ = _ ∧ _ = _
        have e : fc_whole n b md = (fc_floor n b) := by unfold fc_whole; rw [if_neg (show ¬ ((n - ((fc_floor n b) * b)) = (0 : Int64)) from hc19), if_neg (show ¬ (md = (0 : Int32)) from hs27_0), if_neg (show ¬ (md = (1 : Int32)) from hs27_1), if_neg (show ¬ (md = (2 : Int32)) from hs27_2), if_pos (show md = (3 : Int32) from hs27_3), if_pos (show n ≤ (0 : Int64) from hc178)]
        rw [e]
        try dsimp only
        exact ⟨rfl, rfl⟩
      · simp only [pj_lc_le] at hc178
        refine pj_J.go (oX1_whole G) 4 rfl trivial ?_
        refine pj_lret dX1_whole_190 rfl ?_
        show _ = _ ∧ _ = _
        have e : fc_whole n b md = ((fc_floor n b) + (1 : Int64)) := by unfold fc_whole; rw [if_neg (show ¬ ((n - ((fc_floor n b) * b)) = (0 : Int64)) from hc19), if_neg (show ¬ (md = (0 : Int32)) from hs27_0), if_neg (show ¬ (md = (1 : Int32)) from hs27_1), if_neg (show ¬ (md = (2 : Int32)) from hs27_2), if_pos (show md = (3 : Int32) from hs27_3), if_neg (show ¬ (n ≤ (0 : Int64)) from hc178)]
        rw [e]
        try dsimp only
        exact ⟨rfl, rfl⟩
    refine pj_J.swc (fun hs27_4 => ?_) (fun hs27_4 => ?_)
    · skip
      refine pj_J.go (oX1_whole G) 1 rfl trivial ?_
      refine pj_lret dX1_whole_193 rfl ?_
      show _ = _ ∧ _ = _
      have e : fc_whole n b md = (fc_floor n b) := by unfold fc_whole; rw [if_neg (show ¬ ((n - ((fc_floor n b) * b)) = (0 : Int64)) from hc19), if_neg (show ¬ (md = (0 : Int32)) from hs27_0), if_neg (show ¬ (md = (1 : Int32)) from hs27_1), if_neg (show ¬ (md = (2 : Int32)) from hs27_2), if_neg (show ¬ (md = (3 : Int32)) from hs27_3), if_pos (show md = (4 : Int32) from hs27_4)]
      rw [e]
      try dsimp only
      exact ⟨rfl, rfl⟩
    refine pj_J.swn ?_
    refine pj_J.go (oX1_whole G) 3 rfl trivial ?_
    refine pj_lret dX1_whole_198 rfl ?_
    show _ = _ ∧ _ = _
    have e : fc_whole n b md = ((fc_floor n b) + (1 : Int64)) := by unfold fc_whole; rw [if_neg (show ¬ ((n - ((fc_floor n b) * b)) = (0 : Int64)) from hc19), if_neg (show ¬ (md = (0 : Int32)) from hs27_0), if_neg (show ¬ (md = (1 : Int32)) from hs27_1), if_neg (show ¬ (md = (2 : Int32)) from hs27_2), if_neg (show ¬ (md = (3 : Int32)) from hs27_3), if_neg (show ¬ (md = (4 : Int32)) from hs27_4)]
    rw [e]
    try dsimp only
    exact ⟨rfl, rfl⟩
def fc_within (v : Int32) (lo : Int32) (hi : Int32) : Int32 := if v < lo then (0 : Int32) else (if hi < v then (0 : Int32) else (1 : Int32))
theorem c_X1_within {G : pj_G} {d : Nat} {c : sx_C} {m : sx_M} {o : Nat → Int64} {D : pj_H} (v : Int32) (lo : Int32) (hi : Int32)  : pj_Rt G mX1_within (d) [.int v, .int lo, .int hi] (sx_mk c m o D) 0 0 (some (.int (fc_within v lo hi))) (sx_mk c m o D) := by
  refine pj_Cn.start ?_
  refine pj_J.go (oX1_within G) 3 rfl trivial ?_
  refine pj_J.ite (fun hc2 => ?_) (fun hc2 => ?_)
  · skip
    refine pj_J.go (oX1_within G) 1 rfl trivial ?_
    refine pj_zret dX1_within_15 rfl (by first | exact Or.inl rfl | exact Or.inr rfl | exact pj_b01 _ | assumption) ?_
    show _ = _ ∧ _ = _
    have e : fc_within v lo hi = (0 : Int32) := by unfold fc_within; rw [if_pos (show v < lo from hc2)]
    rw [e]
    try dsimp only
    exact ⟨rfl, rfl⟩
  · skip
    refine pj_J.go (oX1_within G) 3 rfl trivial ?_
    refine pj_J.ite (fun hc7 => ?_) (fun hc7 => ?_)
    · skip
      refine pj_J.go (oX1_within G) 1 rfl trivial ?_
      refine pj_zret dX1_within_15 rfl (by first | exact Or.inl rfl | exact Or.inr rfl | exact pj_b01 _ | assumption) ?_
      show _ = _ ∧ _ = _
      have e : fc_within v lo hi = (0 : Int32) := by unfold fc_within; rw [if_neg (show ¬ (v < lo) from hc2), if_pos (show hi < v from hc7)]
      rw [e]
      try dsimp only
      exact ⟨rfl, rfl⟩
    · skip
      refine pj_J.go (oX1_within G) 2 rfl trivial ?_
      refine pj_zret dX1_within_15 rfl (by first | exact Or.inl rfl | exact Or.inr rfl | exact pj_b01 _ | assumption) ?_
      show _ = _ ∧ _ = _
      have e : fc_within v lo hi = (1 : Int32) := by unfold fc_within; rw [if_neg (show ¬ (v < lo) from hc2), if_neg (show ¬ (hi < v) from hc7)]
      rw [e]
      try dsimp only
      exact ⟨rfl, rfl⟩
def fc_fits (k : Int32) (t : Int32) (v : Int32) : Int32 := if k = (0 : Int32) then (if t = (0 : Int32) then (if v = (0 : Int32) then (1 : Int32) else (0 : Int32)) else (0 : Int32)) else (if k = (1 : Int32) then (if (fc_within t (0 : Int32) (7 : Int32)) = (0 : Int32) then (0 : Int32) else (if (fc_within v (0 : Int32) (5 : Int32)) = (0 : Int32) then (0 : Int32) else (1 : Int32))) else (if k = (2 : Int32) then (if (fc_within t (0 : Int32) (7 : Int32)) = (0 : Int32) then (0 : Int32) else (if (fc_within v (0 : Int32) (5 : Int32)) = (0 : Int32) then (0 : Int32) else (1 : Int32))) else (if k = (3 : Int32) then (if (fc_within t (0 : Int32) (7 : Int32)) = (0 : Int32) then (0 : Int32) else (if (fc_within v (0 : Int32) (7 : Int32)) = (0 : Int32) then (0 : Int32) else (1 : Int32))) else (if k = (4 : Int32) then (if (fc_within t (0 : Int32) (5 : Int32)) = (0 : Int32) then (0 : Int32) else (if (fc_within v (1 : Int32) (100 : Int32)) = (0 : Int32) then (0 : Int32) else (1 : Int32))) else (if k = (5 : Int32) then (if (fc_within t (0 : Int32) (7 : Int32)) = (0 : Int32) then (0 : Int32) else (if (fc_within v (0 : Int32) (1 : Int32)) = (0 : Int32) then (0 : Int32) else (1 : Int32))) else (if k = (6 : Int32) then (if (fc_within t (0 : Int32) (3 : Int32)) = (0 : Int32) then (0 : Int32) else (if (fc_within v (0 : Int32) (3 : Int32)) = (0 : Int32) then (0 : Int32) else (1 : Int32))) else (if k = (7 : Int32) then (if (fc_within t (0 : Int32) (7 : Int32)) = (0 : Int32) then (0 : Int32) else (if v = (0 : Int32) then (1 : Int32) else (0 : Int32))) else (if k = (8 : Int32) then (if t = (0 : Int32) then (if v = (0 : Int32) then (1 : Int32) else (0 : Int32)) else (0 : Int32)) else (if k = (9 : Int32) then (if (fc_within t (0 : Int32) (1 : Int32)) = (0 : Int32) then (0 : Int32) else (if (fc_within v (0 : Int32) (1000000 : Int32)) = (0 : Int32) then (0 : Int32) else (1 : Int32))) else (if k = (10 : Int32) then (if (fc_within t (0 : Int32) (7 : Int32)) = (0 : Int32) then (0 : Int32) else (if (fc_within v (0 : Int32) (1 : Int32)) = (0 : Int32) then (0 : Int32) else (1 : Int32))) else (if k = (11 : Int32) then (if (fc_within t (0 : Int32) (7 : Int32)) = (0 : Int32) then (0 : Int32) else (if (fc_within v (0 : Int32) (5 : Int32)) = (0 : Int32) then (0 : Int32) else (1 : Int32))) else (if (fc_within t (0 : Int32) (7 : Int32)) = (0 : Int32) then (0 : Int32) else (if (fc_within v (1 : Int32) (30 : Int32)) = (0 : Int32) then (0 : Int32) else (1 : Int32))))))))))))))
theorem c_X1_fits {G : pj_G} {d : Nat} {c : sx_C} {m : sx_M} {o : Nat → Int64} {D : pj_H} (k : Int32) (t : Int32) (v : Int32)  : pj_Rt G mX1_fits (d + 1) [.int k, .int t, .int v] (sx_mk c m o D) 0 0 (some (.int (fc_fits k t v))) (sx_mk c m o D) := by
  refine pj_Cn.start ?_
  refine pj_J.go (oX1_fits G) 2 rfl trivial ?_
  refine pj_J.swc (fun hs1_0 => ?_) (fun hs1_0 => ?_)
  · skip
    refine pj_J.go (oX1_fits G) 2 rfl trivial ?_
    refine pj_J.ite (fun hc65 => ?_) (fun hc65 => ?_)
    · skip
      refine pj_J.go (oX1_fits G) 2 rfl trivial ?_
      refine pj_J.ite (fun hc69 => ?_) (fun hc69 => ?_)
      · skip
        refine pj_J.go (oX1_fits G) 2 rfl trivial ?_
        refine pj_zret dX1_fits_77 rfl (by first | exact Or.inl rfl | exact Or.inr rfl | exact pj_b01 _ | assumption) ?_
        show _ = _ ∧ _ = _
        have e : fc_fits k t v = (1 : Int32) := by unfold fc_fits; rw [if_pos (show k = (0 : Int32) from hs1_0), if_pos (show t = (0 : Int32) from hc65), if_pos (show v = (0 : Int32) from hc69)]
        rw [e]
        try dsimp only
        exact ⟨rfl, rfl⟩
      · skip
        refine pj_J.go (oX1_fits G) 1 rfl trivial ?_
        refine pj_zret dX1_fits_77 rfl (by first | exact Or.inl rfl | exact Or.inr rfl | exact pj_b01 _ | assumption) ?_
        show _ = _ ∧ _ = _
        have e : fc_fits k t v = (0 : Int32) := by unfold fc_fits; rw [if_pos (show k = (0 : Int32) from hs1_0), if_pos (show t = (0 : Int32) from hc65), if_neg (show ¬ (v = (0 : Int32)) from hc69)]
        rw [e]
        try dsimp only
        exact ⟨rfl, rfl⟩
    · skip
      refine pj_J.go (oX1_fits G) 1 rfl trivial ?_
      refine pj_zret dX1_fits_77 rfl (by first | exact Or.inl rfl | exact Or.inr rfl | exact pj_b01 _ | assumption) ?_
      show _ = _ ∧ _ = _
      have e : fc_fits k t v = (0 : Int32) := by unfold fc_fits; rw [if_pos (show k = (0 : Int32) from hs1_0), if_neg (show ¬ (t = (0 : Int32)) from hc65)]
      rw [e]
      try dsimp only
      exact ⟨rfl, rfl⟩
  refine pj_J.swc (fun hs1_1 => ?_) (fun hs1_1 => ?_)
  · skip
    refine pj_J.go (oX1_fits G) 3 rfl trivial ?_
    refine pj_J.cal0 kX1_fits_82 (c_X1_within t (0 : Int32) (7 : Int32)) trivial pj_le0 pj_le0 pj_le0 ?_
    refine pj_J.go (oX1_fits G) 1 rfl trivial ?_
    refine pj_J.ite (fun hc85 => ?_) (fun hc85 => ?_)
    · skip
      refine pj_J.go (oX1_fits G) 1 rfl trivial ?_
      refine pj_zret dX1_fits_102 rfl (by first | exact Or.inl rfl | exact Or.inr rfl | exact pj_b01 _ | assumption) ?_
      show _ = _ ∧ _ = _
      have e : fc_fits k t v = (0 : Int32) := by unfold fc_fits; rw [if_neg (show ¬ (k = (0 : Int32)) from hs1_0), if_pos (show k = (1 : Int32) from hs1_1), if_pos (show (fc_within t (0 : Int32) (7 : Int32)) = (0 : Int32) from hc85)]
      rw [e]
      try dsimp only
      exact ⟨rfl, rfl⟩
    · skip
      refine pj_J.go (oX1_fits G) 3 rfl trivial ?_
      refine pj_J.cal0 kX1_fits_91 (c_X1_within v (0 : Int32) (5 : Int32)) trivial pj_le0 pj_le0 pj_le0 ?_
      refine pj_J.go (oX1_fits G) 1 rfl trivial ?_
      refine pj_J.ite (fun hc94 => ?_) (fun hc94 => ?_)
      · skip
        refine pj_J.go (oX1_fits G) 1 rfl trivial ?_
        refine pj_zret dX1_fits_102 rfl (by first | exact Or.inl rfl | exact Or.inr rfl | exact pj_b01 _ | assumption) ?_
        show _ = _ ∧ _ = _
        have e : fc_fits k t v = (0 : Int32) := by unfold fc_fits; rw [if_neg (show ¬ (k = (0 : Int32)) from hs1_0), if_pos (show k = (1 : Int32) from hs1_1), if_neg (show ¬ ((fc_within t (0 : Int32) (7 : Int32)) = (0 : Int32)) from hc85), if_pos (show (fc_within v (0 : Int32) (5 : Int32)) = (0 : Int32) from hc94)]
        rw [e]
        try dsimp only
        exact ⟨rfl, rfl⟩
      · skip
        refine pj_J.go (oX1_fits G) 2 rfl trivial ?_
        refine pj_zret dX1_fits_102 rfl (by first | exact Or.inl rfl | exact Or.inr rfl | exact pj_b01 _ | assumption) ?_
        show _ = _ ∧ _ = _
        have e : fc_fits k t v = (1 : Int32) := by unfold fc_fits; rw [if_neg (show ¬ (k = (0 : Int32)) from hs1_0), if_pos (show k = (1 : Int32) from hs1_1), if_neg (show ¬ ((fc_within t (0 : Int32) (7 : Int32)) = (0 : Int32)) from hc85), if_neg (show ¬ ((fc_within v (0 : Int32) (5 : Int32)) = (0 : Int32)) from hc94)]
        rw [e]
        try dsimp only
        exact ⟨rfl, rfl⟩
  refine pj_J.swc (fun hs1_2 => ?_) (fun hs1_2 => ?_)
  · skip
    refine pj_J.go (oX1_fits G) 3 rfl trivial ?_
    refine pj_J.cal0 kX1_fits_82 (c_X1_within t (0 : Int32) (7 : Int32)) trivial pj_le0 pj_le0 pj_le0 ?_
    refine pj_J.go (oX1_fits G) 1 rfl trivial ?_
    refine pj_J.ite (fun hc85 => ?_) (fun hc85 => ?_)
    · skip
      refine pj_J.go (oX1_fits G) 1 rfl trivial ?_
      refine pj_zret dX1_fits_102 rfl (by first | exact Or.inl rfl | exact Or.inr rfl | exact pj_b01 _ | assumption) ?_
      show _ = _ ∧ _ = _
      have e : fc_fits k t v = (0 : Int32) := by unfold fc_fits; rw [if_neg (show ¬ (k = (0 : Int32)) from hs1_0), if_neg (show ¬ (k = (1 : Int32)) from hs1_1), if_pos (show k = (2 : Int32) from hs1_2), if_pos (show (fc_within t (0 : Int32) (7 : Int32)) = (0 : Int32) from hc85)]
      rw [e]
      try dsimp only
      exact ⟨rfl, rfl⟩
    · skip
      refine pj_J.go (oX1_fits G) 3 rfl trivial ?_
      refine pj_J.cal0 kX1_fits_91 (c_X1_within v (0 : Int32) (5 : Int32)) trivial pj_le0 pj_le0 pj_le0 ?_
      refine pj_J.go (oX1_fits G) 1 rfl trivial ?_
      refine pj_J.ite (fun hc94 => ?_) (fun hc94 => ?_)
      · skip
        refine pj_J.go (oX1_fits G) 1 rfl trivial ?_
        refine pj_zret dX1_fits_102 rfl (by first | exact Or.inl rfl | exact Or.inr rfl | exact pj_b01 _ | assumption) ?_
        show _ = _ ∧ _ = _
        have e : fc_fits k t v = (0 : Int32) := by unfold fc_fits; rw [if_neg (show ¬ (k = (0 : Int32)) from hs1_0), if_neg (show ¬ (k = (1 : Int32)) from hs1_1), if_pos (show k = (2 : Int32) from hs1_2), if_neg (show ¬ ((fc_within t (0 : Int32) (7 : Int32)) = (0 : Int32)) from hc85), if_pos (show (fc_within v (0 : Int32) (5 : Int32)) = (0 : Int32) from hc94)]
        rw [e]
        try dsimp only
        exact ⟨rfl, rfl⟩
      · skip
        refine pj_J.go (oX1_fits G) 2 rfl trivial ?_
        refine pj_zret dX1_fits_102 rfl (by first | exact Or.inl rfl | exact Or.inr rfl | exact pj_b01 _ | assumption) ?_
        show _ = _ ∧ _ = _
        have e : fc_fits k t v = (1 : Int32) := by unfold fc_fits; rw [if_neg (show ¬ (k = (0 : Int32)) from hs1_0), if_neg (show ¬ (k = (1 : Int32)) from hs1_1), if_pos (show k = (2 : Int32) from hs1_2), if_neg (show ¬ ((fc_within t (0 : Int32) (7 : Int32)) = (0 : Int32)) from hc85), if_neg (show ¬ ((fc_within v (0 : Int32) (5 : Int32)) = (0 : Int32)) from hc94)]
        rw [e]
        try dsimp only
        exact ⟨rfl, rfl⟩
  refine pj_J.swc (fun hs1_3 => ?_) (fun hs1_3 => ?_)
  · skip
    refine pj_J.go (oX1_fits G) 3 rfl trivial ?_
    refine pj_J.cal0 kX1_fits_107 (c_X1_within t (0 : Int32) (7 : Int32)) trivial pj_le0 pj_le0 pj_le0 ?_
    refine pj_J.go (oX1_fits G) 1 rfl trivial ?_
    refine pj_J.ite (fun hc110 => ?_) (fun hc110 => ?_)
    · skip
      refine pj_J.go (oX1_fits G) 1 rfl trivial ?_
      refine pj_zret dX1_fits_128 rfl (by first | exact Or.inl rfl | exact Or.inr rfl | exact pj_b01 _ | assumption) ?_
      show _ = _ ∧ _ = _
      have e : fc_fits k t v = (0 : Int32) := by unfold fc_fits; rw [if_neg (show ¬ (k = (0 : Int32)) from hs1_0), if_neg (show ¬ (k = (1 : Int32)) from hs1_1), if_neg (show ¬ (k = (2 : Int32)) from hs1_2), if_pos (show k = (3 : Int32) from hs1_3), if_pos (show (fc_within t (0 : Int32) (7 : Int32)) = (0 : Int32) from hc110)]
      rw [e]
      try dsimp only
      exact ⟨rfl, rfl⟩
    · skip
      refine pj_J.go (oX1_fits G) 3 rfl trivial ?_
      refine pj_J.cal0 kX1_fits_117 (c_X1_within v (0 : Int32) (7 : Int32)) trivial pj_le0 pj_le0 pj_le0 ?_
      refine pj_J.go (oX1_fits G) 1 rfl trivial ?_
      refine pj_J.ite (fun hc120 => ?_) (fun hc120 => ?_)
      · skip
        refine pj_J.go (oX1_fits G) 1 rfl trivial ?_
        refine pj_zret dX1_fits_128 rfl (by first | exact Or.inl rfl | exact Or.inr rfl | exact pj_b01 _ | assumption) ?_
        show _ = _ ∧ _ = _
        have e : fc_fits k t v = (0 : Int32) := by unfold fc_fits; rw [if_neg (show ¬ (k = (0 : Int32)) from hs1_0), if_neg (show ¬ (k = (1 : Int32)) from hs1_1), if_neg (show ¬ (k = (2 : Int32)) from hs1_2), if_pos (show k = (3 : Int32) from hs1_3), if_neg (show ¬ ((fc_within t (0 : Int32) (7 : Int32)) = (0 : Int32)) from hc110), if_pos (show (fc_within v (0 : Int32) (7 : Int32)) = (0 : Int32) from hc120)]
        rw [e]
        try dsimp only
        exact ⟨rfl, rfl⟩
      · skip
        refine pj_J.go (oX1_fits G) 2 rfl trivial ?_
        refine pj_zret dX1_fits_128 rfl (by first | exact Or.inl rfl | exact Or.inr rfl | exact pj_b01 _ | assumption) ?_
        show _ = _ ∧ _ = _
        have e : fc_fits k t v = (1 : Int32) := by unfold fc_fits; rw [if_neg (show ¬ (k = (0 : Int32)) from hs1_0), if_neg (show ¬ (k = (1 : Int32)) from hs1_1), if_neg (show ¬ (k = (2 : Int32)) from hs1_2), if_pos (show k = (3 : Int32) from hs1_3), if_neg (show ¬ ((fc_within t (0 : Int32) (7 : Int32)) = (0 : Int32)) from hc110), if_neg (show ¬ ((fc_within v (0 : Int32) (7 : Int32)) = (0 : Int32)) from hc120)]
        rw [e]
        try dsimp only
        exact ⟨rfl, rfl⟩
  refine pj_J.swc (fun hs1_4 => ?_) (fun hs1_4 => ?_)
  · skip
    refine pj_J.go (oX1_fits G) 3 rfl trivial ?_
    refine pj_J.cal0 kX1_fits_132 (c_X1_within t (0 : Int32) (5 : Int32)) trivial pj_le0 pj_le0 pj_le0 ?_
    refine pj_J.go (oX1_fits G) 1 rfl trivial ?_
    refine pj_J.ite (fun hc135 => ?_) (fun hc135 => ?_)
    · skip
      refine pj_J.go (oX1_fits G) 1 rfl trivial ?_
      refine pj_zret dX1_fits_153 rfl (by first | exact Or.inl rfl | exact Or.inr rfl | exact pj_b01 _ | assumption) ?_
      show _ = _ ∧ _ = _
      have e : fc_fits k t v = (0 : Int32) := by unfold fc_fits; rw [if_neg (show ¬ (k = (0 : Int32)) from hs1_0), if_neg (show ¬ (k = (1 : Int32)) from hs1_1), if_neg (show ¬ (k = (2 : Int32)) from hs1_2), if_neg (show ¬ (k = (3 : Int32)) from hs1_3), if_pos (show k = (4 : Int32) from hs1_4), if_pos (show (fc_within t (0 : Int32) (5 : Int32)) = (0 : Int32) from hc135)]
      rw [e]
      try dsimp only
      exact ⟨rfl, rfl⟩
    · skip
      refine pj_J.go (oX1_fits G) 3 rfl trivial ?_
      refine pj_J.cal0 kX1_fits_142 (c_X1_within v (1 : Int32) (100 : Int32)) trivial pj_le0 pj_le0 pj_le0 ?_
      refine pj_J.go (oX1_fits G) 1 rfl trivial ?_
      refine pj_J.ite (fun hc145 => ?_) (fun hc145 => ?_)
      · skip
        refine pj_J.go (oX1_fits G) 1 rfl trivial ?_
        refine pj_zret dX1_fits_153 rfl (by first | exact Or.inl rfl | exact Or.inr rfl | exact pj_b01 _ | assumption) ?_
        show _ = _ ∧ _ = _
        have e : fc_fits k t v = (0 : Int32) := by unfold fc_fits; rw [if_neg (show ¬ (k = (0 : Int32)) from hs1_0), if_neg (show ¬ (k = (1 : Int32)) from hs1_1), if_neg (show ¬ (k = (2 : Int32)) from hs1_2), if_neg (show ¬ (k = (3 : Int32)) from hs1_3), if_pos (show k = (4 : Int32) from hs1_4), if_neg (show ¬ ((fc_within t (0 : Int32) (5 : Int32)) = (0 : Int32)) from hc135), if_pos (show (fc_within v (1 : Int32) (100 : Int32)) = (0 : Int32) from hc145)]
        rw [e]
        try dsimp only
        exact ⟨rfl, rfl⟩
      · skip
        refine pj_J.go (oX1_fits G) 2 rfl trivial ?_
        refine pj_zret dX1_fits_153 rfl (by first | exact Or.inl rfl | exact Or.inr rfl | exact pj_b01 _ | assumption) ?_
        show _ = _ ∧ _ = _
        have e : fc_fits k t v = (1 : Int32) := by unfold fc_fits; rw [if_neg (show ¬ (k = (0 : Int32)) from hs1_0), if_neg (show ¬ (k = (1 : Int32)) from hs1_1), if_neg (show ¬ (k = (2 : Int32)) from hs1_2), if_neg (show ¬ (k = (3 : Int32)) from hs1_3), if_pos (show k = (4 : Int32) from hs1_4), if_neg (show ¬ ((fc_within t (0 : Int32) (5 : Int32)) = (0 : Int32)) from hc135), if_neg (show ¬ ((fc_within v (1 : Int32) (100 : Int32)) = (0 : Int32)) from hc145)]
        rw [e]
        try dsimp only
        exact ⟨rfl, rfl⟩
  refine pj_J.swc (fun hs1_5 => ?_) (fun hs1_5 => ?_)
  · skip
    refine pj_J.go (oX1_fits G) 3 rfl trivial ?_
    refine pj_J.cal0 kX1_fits_158 (c_X1_within t (0 : Int32) (7 : Int32)) trivial pj_le0 pj_le0 pj_le0 ?_
    refine pj_J.go (oX1_fits G) 1 rfl trivial ?_
    refine pj_J.ite (fun hc161 => ?_) (fun hc161 => ?_)
    · skip
      refine pj_J.go (oX1_fits G) 1 rfl trivial ?_
      refine pj_zret dX1_fits_178 rfl (by first | exact Or.inl rfl | exact Or.inr rfl | exact pj_b01 _ | assumption) ?_
      show _ = _ ∧ _ = _
      have e : fc_fits k t v = (0 : Int32) := by unfold fc_fits; rw [if_neg (show ¬ (k = (0 : Int32)) from hs1_0), if_neg (show ¬ (k = (1 : Int32)) from hs1_1), if_neg (show ¬ (k = (2 : Int32)) from hs1_2), if_neg (show ¬ (k = (3 : Int32)) from hs1_3), if_neg (show ¬ (k = (4 : Int32)) from hs1_4), if_pos (show k = (5 : Int32) from hs1_5), if_pos (show (fc_within t (0 : Int32) (7 : Int32)) = (0 : Int32) from hc161)]
      rw [e]
      try dsimp only
      exact ⟨rfl, rfl⟩
    · skip
      refine pj_J.go (oX1_fits G) 3 rfl trivial ?_
      refine pj_J.cal0 kX1_fits_167 (c_X1_within v (0 : Int32) (1 : Int32)) trivial pj_le0 pj_le0 pj_le0 ?_
      refine pj_J.go (oX1_fits G) 1 rfl trivial ?_
      refine pj_J.ite (fun hc170 => ?_) (fun hc170 => ?_)
      · skip
        refine pj_J.go (oX1_fits G) 1 rfl trivial ?_
        refine pj_zret dX1_fits_178 rfl (by first | exact Or.inl rfl | exact Or.inr rfl | exact pj_b01 _ | assumption) ?_
        show _ = _ ∧ _ = _
        have e : fc_fits k t v = (0 : Int32) := by unfold fc_fits; rw [if_neg (show ¬ (k = (0 : Int32)) from hs1_0), if_neg (show ¬ (k = (1 : Int32)) from hs1_1), if_neg (show ¬ (k = (2 : Int32)) from hs1_2), if_neg (show ¬ (k = (3 : Int32)) from hs1_3), if_neg (show ¬ (k = (4 : Int32)) from hs1_4), if_pos (show k = (5 : Int32) from hs1_5), if_neg (show ¬ ((fc_within t (0 : Int32) (7 : Int32)) = (0 : Int32)) from hc161), if_pos (show (fc_within v (0 : Int32) (1 : Int32)) = (0 : Int32) from hc170)]
        rw [e]
        try dsimp only
        exact ⟨rfl, rfl⟩
      · skip
        refine pj_J.go (oX1_fits G) 2 rfl trivial ?_
        refine pj_zret dX1_fits_178 rfl (by first | exact Or.inl rfl | exact Or.inr rfl | exact pj_b01 _ | assumption) ?_
        show _ = _ ∧ _ = _
        have e : fc_fits k t v = (1 : Int32) := by unfold fc_fits; rw [if_neg (show ¬ (k = (0 : Int32)) from hs1_0), if_neg (show ¬ (k = (1 : Int32)) from hs1_1), if_neg (show ¬ (k = (2 : Int32)) from hs1_2), if_neg (show ¬ (k = (3 : Int32)) from hs1_3), if_neg (show ¬ (k = (4 : Int32)) from hs1_4), if_pos (show k = (5 : Int32) from hs1_5), if_neg (show ¬ ((fc_within t (0 : Int32) (7 : Int32)) = (0 : Int32)) from hc161), if_neg (show ¬ ((fc_within v (0 : Int32) (1 : Int32)) = (0 : Int32)) from hc170)]
        rw [e]
        try dsimp only
        exact ⟨rfl, rfl⟩
  refine pj_J.swc (fun hs1_6 => ?_) (fun hs1_6 => ?_)
  · skip
    refine pj_J.go (oX1_fits G) 3 rfl trivial ?_
    refine pj_J.cal0 kX1_fits_182 (c_X1_within t (0 : Int32) (3 : Int32)) trivial pj_le0 pj_le0 pj_le0 ?_
    refine pj_J.go (oX1_fits G) 1 rfl trivial ?_
    refine pj_J.ite (fun hc185 => ?_) (fun hc185 => ?_)
    · skip
      refine pj_J.go (oX1_fits G) 1 rfl trivial ?_
      refine pj_zret dX1_fits_202 rfl (by first | exact Or.inl rfl | exact Or.inr rfl | exact pj_b01 _ | assumption) ?_
      show _ = _ ∧ _ = _
      have e : fc_fits k t v = (0 : Int32) := by unfold fc_fits; rw [if_neg (show ¬ (k = (0 : Int32)) from hs1_0), if_neg (show ¬ (k = (1 : Int32)) from hs1_1), if_neg (show ¬ (k = (2 : Int32)) from hs1_2), if_neg (show ¬ (k = (3 : Int32)) from hs1_3), if_neg (show ¬ (k = (4 : Int32)) from hs1_4), if_neg (show ¬ (k = (5 : Int32)) from hs1_5), if_pos (show k = (6 : Int32) from hs1_6), if_pos (show (fc_within t (0 : Int32) (3 : Int32)) = (0 : Int32) from hc185)]
      rw [e]
      try dsimp only
      exact ⟨rfl, rfl⟩
    · skip
      refine pj_J.go (oX1_fits G) 3 rfl trivial ?_
      refine pj_J.cal0 kX1_fits_191 (c_X1_within v (0 : Int32) (3 : Int32)) trivial pj_le0 pj_le0 pj_le0 ?_
      refine pj_J.go (oX1_fits G) 1 rfl trivial ?_
      refine pj_J.ite (fun hc194 => ?_) (fun hc194 => ?_)
      · skip
        refine pj_J.go (oX1_fits G) 1 rfl trivial ?_
        refine pj_zret dX1_fits_202 rfl (by first | exact Or.inl rfl | exact Or.inr rfl | exact pj_b01 _ | assumption) ?_
        show _ = _ ∧ _ = _
        have e : fc_fits k t v = (0 : Int32) := by unfold fc_fits; rw [if_neg (show ¬ (k = (0 : Int32)) from hs1_0), if_neg (show ¬ (k = (1 : Int32)) from hs1_1), if_neg (show ¬ (k = (2 : Int32)) from hs1_2), if_neg (show ¬ (k = (3 : Int32)) from hs1_3), if_neg (show ¬ (k = (4 : Int32)) from hs1_4), if_neg (show ¬ (k = (5 : Int32)) from hs1_5), if_pos (show k = (6 : Int32) from hs1_6), if_neg (show ¬ ((fc_within t (0 : Int32) (3 : Int32)) = (0 : Int32)) from hc185), if_pos (show (fc_within v (0 : Int32) (3 : Int32)) = (0 : Int32) from hc194)]
        rw [e]
        try dsimp only
        exact ⟨rfl, rfl⟩
      · skip
        refine pj_J.go (oX1_fits G) 2 rfl trivial ?_
        refine pj_zret dX1_fits_202 rfl (by first | exact Or.inl rfl | exact Or.inr rfl | exact pj_b01 _ | assumption) ?_
        show _ = _ ∧ _ = _
        have e : fc_fits k t v = (1 : Int32) := by unfold fc_fits; rw [if_neg (show ¬ (k = (0 : Int32)) from hs1_0), if_neg (show ¬ (k = (1 : Int32)) from hs1_1), if_neg (show ¬ (k = (2 : Int32)) from hs1_2), if_neg (show ¬ (k = (3 : Int32)) from hs1_3), if_neg (show ¬ (k = (4 : Int32)) from hs1_4), if_neg (show ¬ (k = (5 : Int32)) from hs1_5), if_pos (show k = (6 : Int32) from hs1_6), if_neg (show ¬ ((fc_within t (0 : Int32) (3 : Int32)) = (0 : Int32)) from hc185), if_neg (show ¬ ((fc_within v (0 : Int32) (3 : Int32)) = (0 : Int32)) from hc194)]
        rw [e]
        try dsimp only
        exact ⟨rfl, rfl⟩
  refine pj_J.swc (fun hs1_7 => ?_) (fun hs1_7 => ?_)
  · skip
    refine pj_J.go (oX1_fits G) 3 rfl trivial ?_
    refine pj_J.cal0 kX1_fits_207 (c_X1_within t (0 : Int32) (7 : Int32)) trivial pj_le0 pj_le0 pj_le0 ?_
    refine pj_J.go (oX1_fits G) 1 rfl trivial ?_
    refine pj_J.ite (fun hc210 => ?_) (fun hc210 => ?_)
    · skip
      refine pj_J.go (oX1_fits G) 1 rfl trivial ?_
      refine pj_zret dX1_fits_222 rfl (by first | exact Or.inl rfl | exact Or.inr rfl | exact pj_b01 _ | assumption) ?_
      show _ = _ ∧ _ = _
      have e : fc_fits k t v = (0 : Int32) := by unfold fc_fits; rw [if_neg (show ¬ (k = (0 : Int32)) from hs1_0), if_neg (show ¬ (k = (1 : Int32)) from hs1_1), if_neg (show ¬ (k = (2 : Int32)) from hs1_2), if_neg (show ¬ (k = (3 : Int32)) from hs1_3), if_neg (show ¬ (k = (4 : Int32)) from hs1_4), if_neg (show ¬ (k = (5 : Int32)) from hs1_5), if_neg (show ¬ (k = (6 : Int32)) from hs1_6), if_pos (show k = (7 : Int32) from hs1_7), if_pos (show (fc_within t (0 : Int32) (7 : Int32)) = (0 : Int32) from hc210)]
      rw [e]
      try dsimp only
      exact ⟨rfl, rfl⟩
    · skip
      refine pj_J.go (oX1_fits G) 2 rfl trivial ?_
      refine pj_J.ite (fun hc214 => ?_) (fun hc214 => ?_)
      · skip
        refine pj_J.go (oX1_fits G) 2 rfl trivial ?_
        refine pj_zret dX1_fits_222 rfl (by first | exact Or.inl rfl | exact Or.inr rfl | exact pj_b01 _ | assumption) ?_
        show _ = _ ∧ _ = _
        have e : fc_fits k t v = (1 : Int32) := by unfold fc_fits; rw [if_neg (show ¬ (k = (0 : Int32)) from hs1_0), if_neg (show ¬ (k = (1 : Int32)) from hs1_1), if_neg (show ¬ (k = (2 : Int32)) from hs1_2), if_neg (show ¬ (k = (3 : Int32)) from hs1_3), if_neg (show ¬ (k = (4 : Int32)) from hs1_4), if_neg (show ¬ (k = (5 : Int32)) from hs1_5), if_neg (show ¬ (k = (6 : Int32)) from hs1_6), if_pos (show k = (7 : Int32) from hs1_7), if_neg (show ¬ ((fc_within t (0 : Int32) (7 : Int32)) = (0 : Int32)) from hc210), if_pos (show v = (0 : Int32) from hc214)]
        rw [e]
        try dsimp only
        exact ⟨rfl, rfl⟩
      · skip
        refine pj_J.go (oX1_fits G) 1 rfl trivial ?_
        refine pj_zret dX1_fits_222 rfl (by first | exact Or.inl rfl | exact Or.inr rfl | exact pj_b01 _ | assumption) ?_
        show _ = _ ∧ _ = _
        have e : fc_fits k t v = (0 : Int32) := by unfold fc_fits; rw [if_neg (show ¬ (k = (0 : Int32)) from hs1_0), if_neg (show ¬ (k = (1 : Int32)) from hs1_1), if_neg (show ¬ (k = (2 : Int32)) from hs1_2), if_neg (show ¬ (k = (3 : Int32)) from hs1_3), if_neg (show ¬ (k = (4 : Int32)) from hs1_4), if_neg (show ¬ (k = (5 : Int32)) from hs1_5), if_neg (show ¬ (k = (6 : Int32)) from hs1_6), if_pos (show k = (7 : Int32) from hs1_7), if_neg (show ¬ ((fc_within t (0 : Int32) (7 : Int32)) = (0 : Int32)) from hc210), if_neg (show ¬ (v = (0 : Int32)) from hc214)]
        rw [e]
        try dsimp only
        exact ⟨rfl, rfl⟩
  refine pj_J.swc (fun hs1_8 => ?_) (fun hs1_8 => ?_)
  · skip
    refine pj_J.go (oX1_fits G) 2 rfl trivial ?_
    refine pj_J.ite (fun hc65 => ?_) (fun hc65 => ?_)
    · skip
      refine pj_J.go (oX1_fits G) 2 rfl trivial ?_
      refine pj_J.ite (fun hc69 => ?_) (fun hc69 => ?_)
      · skip
        refine pj_J.go (oX1_fits G) 2 rfl trivial ?_
        refine pj_zret dX1_fits_77 rfl (by first | exact Or.inl rfl | exact Or.inr rfl | exact pj_b01 _ | assumption) ?_
        show _ = _ ∧ _ = _
        have e : fc_fits k t v = (1 : Int32) := by unfold fc_fits; rw [if_neg (show ¬ (k = (0 : Int32)) from hs1_0), if_neg (show ¬ (k = (1 : Int32)) from hs1_1), if_neg (show ¬ (k = (2 : Int32)) from hs1_2), if_neg (show ¬ (k = (3 : Int32)) from hs1_3), if_neg (show ¬ (k = (4 : Int32)) from hs1_4), if_neg (show ¬ (k = (5 : Int32)) from hs1_5), if_neg (show ¬ (k = (6 : Int32)) from hs1_6), if_neg (show ¬ (k = (7 : Int32)) from hs1_7), if_pos (show k = (8 : Int32) from hs1_8), if_pos (show t = (0 : Int32) from hc65), if_pos (show v = (0 : Int32) from hc69)]
        rw [e]
        try dsimp only
        exact ⟨rfl, rfl⟩
      · skip
        refine pj_J.go (oX1_fits G) 1 rfl trivial ?_
        refine pj_zret dX1_fits_77 rfl (by first | exact Or.inl rfl | exact Or.inr rfl | exact pj_b01 _ | assumption) ?_
        show _ = _ ∧ _ = _
        have e : fc_fits k t v = (0 : Int32) := by unfold fc_fits; rw [if_neg (show ¬ (k = (0 : Int32)) from hs1_0), if_neg (show ¬ (k = (1 : Int32)) from hs1_1), if_neg (show ¬ (k = (2 : Int32)) from hs1_2), if_neg (show ¬ (k = (3 : Int32)) from hs1_3), if_neg (show ¬ (k = (4 : Int32)) from hs1_4), if_neg (show ¬ (k = (5 : Int32)) from hs1_5), if_neg (show ¬ (k = (6 : Int32)) from hs1_6), if_neg (show ¬ (k = (7 : Int32)) from hs1_7), if_pos (show k = (8 : Int32) from hs1_8), if_pos (show t = (0 : Int32) from hc65), if_neg (show ¬ (v = (0 : Int32)) from hc69)]
        rw [e]
        try dsimp only
        exact ⟨rfl, rfl⟩
    · skip
      refine pj_J.go (oX1_fits G) 1 rfl trivial ?_
      refine pj_zret dX1_fits_77 rfl (by first | exact Or.inl rfl | exact Or.inr rfl | exact pj_b01 _ | assumption) ?_
      show _ = _ ∧ _ = _
      have e : fc_fits k t v = (0 : Int32) := by unfold fc_fits; rw [if_neg (show ¬ (k = (0 : Int32)) from hs1_0), if_neg (show ¬ (k = (1 : Int32)) from hs1_1), if_neg (show ¬ (k = (2 : Int32)) from hs1_2), if_neg (show ¬ (k = (3 : Int32)) from hs1_3), if_neg (show ¬ (k = (4 : Int32)) from hs1_4), if_neg (show ¬ (k = (5 : Int32)) from hs1_5), if_neg (show ¬ (k = (6 : Int32)) from hs1_6), if_neg (show ¬ (k = (7 : Int32)) from hs1_7), if_pos (show k = (8 : Int32) from hs1_8), if_neg (show ¬ (t = (0 : Int32)) from hc65)]
      rw [e]
      try dsimp only
      exact ⟨rfl, rfl⟩
  refine pj_J.swc (fun hs1_9 => ?_) (fun hs1_9 => ?_)
  · skip
    refine pj_J.go (oX1_fits G) 3 rfl trivial ?_
    refine pj_J.cal0 kX1_fits_226 (c_X1_within t (0 : Int32) (1 : Int32)) trivial pj_le0 pj_le0 pj_le0 ?_
    refine pj_J.go (oX1_fits G) 1 rfl trivial ?_
    refine pj_J.ite (fun hc229 => ?_) (fun hc229 => ?_)
    · skip
      refine pj_J.go (oX1_fits G) 1 rfl trivial ?_
      refine pj_zret dX1_fits_247 rfl (by first | exact Or.inl rfl | exact Or.inr rfl | exact pj_b01 _ | assumption) ?_
      show _ = _ ∧ _ = _
      have e : fc_fits k t v = (0 : Int32) := by unfold fc_fits; rw [if_neg (show ¬ (k = (0 : Int32)) from hs1_0), if_neg (show ¬ (k = (1 : Int32)) from hs1_1), if_neg (show ¬ (k = (2 : Int32)) from hs1_2), if_neg (show ¬ (k = (3 : Int32)) from hs1_3), if_neg (show ¬ (k = (4 : Int32)) from hs1_4), if_neg (show ¬ (k = (5 : Int32)) from hs1_5), if_neg (show ¬ (k = (6 : Int32)) from hs1_6), if_neg (show ¬ (k = (7 : Int32)) from hs1_7), if_neg (show ¬ (k = (8 : Int32)) from hs1_8), if_pos (show k = (9 : Int32) from hs1_9), if_pos (show (fc_within t (0 : Int32) (1 : Int32)) = (0 : Int32) from hc229)]
      rw [e]
      try dsimp only
      exact ⟨rfl, rfl⟩
    · skip
      refine pj_J.go (oX1_fits G) 3 rfl trivial ?_
      refine pj_J.cal0 kX1_fits_236 (c_X1_within v (0 : Int32) (1000000 : Int32)) trivial pj_le0 pj_le0 pj_le0 ?_
      refine pj_J.go (oX1_fits G) 1 rfl trivial ?_
      refine pj_J.ite (fun hc239 => ?_) (fun hc239 => ?_)
      · skip
        refine pj_J.go (oX1_fits G) 1 rfl trivial ?_
        refine pj_zret dX1_fits_247 rfl (by first | exact Or.inl rfl | exact Or.inr rfl | exact pj_b01 _ | assumption) ?_
        show _ = _ ∧ _ = _
        have e : fc_fits k t v = (0 : Int32) := by unfold fc_fits; rw [if_neg (show ¬ (k = (0 : Int32)) from hs1_0), if_neg (show ¬ (k = (1 : Int32)) from hs1_1), if_neg (show ¬ (k = (2 : Int32)) from hs1_2), if_neg (show ¬ (k = (3 : Int32)) from hs1_3), if_neg (show ¬ (k = (4 : Int32)) from hs1_4), if_neg (show ¬ (k = (5 : Int32)) from hs1_5), if_neg (show ¬ (k = (6 : Int32)) from hs1_6), if_neg (show ¬ (k = (7 : Int32)) from hs1_7), if_neg (show ¬ (k = (8 : Int32)) from hs1_8), if_pos (show k = (9 : Int32) from hs1_9), if_neg (show ¬ ((fc_within t (0 : Int32) (1 : Int32)) = (0 : Int32)) from hc229), if_pos (show (fc_within v (0 : Int32) (1000000 : Int32)) = (0 : Int32) from hc239)]
        rw [e]
        try dsimp only
        exact ⟨rfl, rfl⟩
      · skip
        refine pj_J.go (oX1_fits G) 2 rfl trivial ?_
        refine pj_zret dX1_fits_247 rfl (by first | exact Or.inl rfl | exact Or.inr rfl | exact pj_b01 _ | assumption) ?_
        show _ = _ ∧ _ = _
        have e : fc_fits k t v = (1 : Int32) := by unfold fc_fits; rw [if_neg (show ¬ (k = (0 : Int32)) from hs1_0), if_neg (show ¬ (k = (1 : Int32)) from hs1_1), if_neg (show ¬ (k = (2 : Int32)) from hs1_2), if_neg (show ¬ (k = (3 : Int32)) from hs1_3), if_neg (show ¬ (k = (4 : Int32)) from hs1_4), if_neg (show ¬ (k = (5 : Int32)) from hs1_5), if_neg (show ¬ (k = (6 : Int32)) from hs1_6), if_neg (show ¬ (k = (7 : Int32)) from hs1_7), if_neg (show ¬ (k = (8 : Int32)) from hs1_8), if_pos (show k = (9 : Int32) from hs1_9), if_neg (show ¬ ((fc_within t (0 : Int32) (1 : Int32)) = (0 : Int32)) from hc229), if_neg (show ¬ ((fc_within v (0 : Int32) (1000000 : Int32)) = (0 : Int32)) from hc239)]
        rw [e]
        try dsimp only
        exact ⟨rfl, rfl⟩
  refine pj_J.swc (fun hs1_10 => ?_) (fun hs1_10 => ?_)
  · skip
    refine pj_J.go (oX1_fits G) 3 rfl trivial ?_
    refine pj_J.cal0 kX1_fits_158 (c_X1_within t (0 : Int32) (7 : Int32)) trivial pj_le0 pj_le0 pj_le0 ?_
    refine pj_J.go (oX1_fits G) 1 rfl trivial ?_
    refine pj_J.ite (fun hc161 => ?_) (fun hc161 => ?_)
    · skip
      refine pj_J.go (oX1_fits G) 1 rfl trivial ?_
      refine pj_zret dX1_fits_178 rfl (by first | exact Or.inl rfl | exact Or.inr rfl | exact pj_b01 _ | assumption) ?_
      show _ = _ ∧ _ = _
      have e : fc_fits k t v = (0 : Int32) := by unfold fc_fits; rw [if_neg (show ¬ (k = (0 : Int32)) from hs1_0), if_neg (show ¬ (k = (1 : Int32)) from hs1_1), if_neg (show ¬ (k = (2 : Int32)) from hs1_2), if_neg (show ¬ (k = (3 : Int32)) from hs1_3), if_neg (show ¬ (k = (4 : Int32)) from hs1_4), if_neg (show ¬ (k = (5 : Int32)) from hs1_5), if_neg (show ¬ (k = (6 : Int32)) from hs1_6), if_neg (show ¬ (k = (7 : Int32)) from hs1_7), if_neg (show ¬ (k = (8 : Int32)) from hs1_8), if_neg (show ¬ (k = (9 : Int32)) from hs1_9), if_pos (show k = (10 : Int32) from hs1_10), if_pos (show (fc_within t (0 : Int32) (7 : Int32)) = (0 : Int32) from hc161)]
      rw [e]
      try dsimp only
      exact ⟨rfl, rfl⟩
    · skip
      refine pj_J.go (oX1_fits G) 3 rfl trivial ?_
      refine pj_J.cal0 kX1_fits_167 (c_X1_within v (0 : Int32) (1 : Int32)) trivial pj_le0 pj_le0 pj_le0 ?_
      refine pj_J.go (oX1_fits G) 1 rfl trivial ?_
      refine pj_J.ite (fun hc170 => ?_) (fun hc170 => ?_)
      · skip
        refine pj_J.go (oX1_fits G) 1 rfl trivial ?_
        refine pj_zret dX1_fits_178 rfl (by first | exact Or.inl rfl | exact Or.inr rfl | exact pj_b01 _ | assumption) ?_
        show _ = _ ∧ _ = _
        have e : fc_fits k t v = (0 : Int32) := by unfold fc_fits; rw [if_neg (show ¬ (k = (0 : Int32)) from hs1_0), if_neg (show ¬ (k = (1 : Int32)) from hs1_1), if_neg (show ¬ (k = (2 : Int32)) from hs1_2), if_neg (show ¬ (k = (3 : Int32)) from hs1_3), if_neg (show ¬ (k = (4 : Int32)) from hs1_4), if_neg (show ¬ (k = (5 : Int32)) from hs1_5), if_neg (show ¬ (k = (6 : Int32)) from hs1_6), if_neg (show ¬ (k = (7 : Int32)) from hs1_7), if_neg (show ¬ (k = (8 : Int32)) from hs1_8), if_neg (show ¬ (k = (9 : Int32)) from hs1_9), if_pos (show k = (10 : Int32) from hs1_10), if_neg (show ¬ ((fc_within t (0 : Int32) (7 : Int32)) = (0 : Int32)) from hc161), if_pos (show (fc_within v (0 : Int32) (1 : Int32)) = (0 : Int32) from hc170)]
        rw [e]
        try dsimp only
        exact ⟨rfl, rfl⟩
      · skip
        refine pj_J.go (oX1_fits G) 2 rfl trivial ?_
        refine pj_zret dX1_fits_178 rfl (by first | exact Or.inl rfl | exact Or.inr rfl | exact pj_b01 _ | assumption) ?_
        show _ = _ ∧ _ = _
        have e : fc_fits k t v = (1 : Int32) := by unfold fc_fits; rw [if_neg (show ¬ (k = (0 : Int32)) from hs1_0), if_neg (show ¬ (k = (1 : Int32)) from hs1_1), if_neg (show ¬ (k = (2 : Int32)) from hs1_2), if_neg (show ¬ (k = (3 : Int32)) from hs1_3), if_neg (show ¬ (k = (4 : Int32)) from hs1_4), if_neg (show ¬ (k = (5 : Int32)) from hs1_5), if_neg (show ¬ (k = (6 : Int32)) from hs1_6), if_neg (show ¬ (k = (7 : Int32)) from hs1_7), if_neg (show ¬ (k = (8 : Int32)) from hs1_8), if_neg (show ¬ (k = (9 : Int32)) from hs1_9), if_pos (show k = (10 : Int32) from hs1_10), if_neg (show ¬ ((fc_within t (0 : Int32) (7 : Int32)) = (0 : Int32)) from hc161), if_neg (show ¬ ((fc_within v (0 : Int32) (1 : Int32)) = (0 : Int32)) from hc170)]
        rw [e]
        try dsimp only
        exact ⟨rfl, rfl⟩
  refine pj_J.swc (fun hs1_11 => ?_) (fun hs1_11 => ?_)
  · skip
    refine pj_J.go (oX1_fits G) 3 rfl trivial ?_
    refine pj_J.cal0 kX1_fits_252 (c_X1_within t (0 : Int32) (7 : Int32)) trivial pj_le0 pj_le0 pj_le0 ?_
    refine pj_J.go (oX1_fits G) 1 rfl trivial ?_
    refine pj_J.ite (fun hc255 => ?_) (fun hc255 => ?_)
    · skip
      refine pj_J.go (oX1_fits G) 1 rfl trivial ?_
      refine pj_zret dX1_fits_272 rfl (by first | exact Or.inl rfl | exact Or.inr rfl | exact pj_b01 _ | assumption) ?_
      show _ = _ ∧ _ = _
      have e : fc_fits k t v = (0 : Int32) := by unfold fc_fits; rw [if_neg (show ¬ (k = (0 : Int32)) from hs1_0), if_neg (show ¬ (k = (1 : Int32)) from hs1_1), if_neg (show ¬ (k = (2 : Int32)) from hs1_2), if_neg (show ¬ (k = (3 : Int32)) from hs1_3), if_neg (show ¬ (k = (4 : Int32)) from hs1_4), if_neg (show ¬ (k = (5 : Int32)) from hs1_5), if_neg (show ¬ (k = (6 : Int32)) from hs1_6), if_neg (show ¬ (k = (7 : Int32)) from hs1_7), if_neg (show ¬ (k = (8 : Int32)) from hs1_8), if_neg (show ¬ (k = (9 : Int32)) from hs1_9), if_neg (show ¬ (k = (10 : Int32)) from hs1_10), if_pos (show k = (11 : Int32) from hs1_11), if_pos (show (fc_within t (0 : Int32) (7 : Int32)) = (0 : Int32) from hc255)]
      rw [e]
      try dsimp only
      exact ⟨rfl, rfl⟩
    · skip
      refine pj_J.go (oX1_fits G) 3 rfl trivial ?_
      refine pj_J.cal0 kX1_fits_261 (c_X1_within v (0 : Int32) (5 : Int32)) trivial pj_le0 pj_le0 pj_le0 ?_
      refine pj_J.go (oX1_fits G) 1 rfl trivial ?_
      refine pj_J.ite (fun hc264 => ?_) (fun hc264 => ?_)
      · skip
        refine pj_J.go (oX1_fits G) 1 rfl trivial ?_
        refine pj_zret dX1_fits_272 rfl (by first | exact Or.inl rfl | exact Or.inr rfl | exact pj_b01 _ | assumption) ?_
        show _ = _ ∧ _ = _
        have e : fc_fits k t v = (0 : Int32) := by unfold fc_fits; rw [if_neg (show ¬ (k = (0 : Int32)) from hs1_0), if_neg (show ¬ (k = (1 : Int32)) from hs1_1), if_neg (show ¬ (k = (2 : Int32)) from hs1_2), if_neg (show ¬ (k = (3 : Int32)) from hs1_3), if_neg (show ¬ (k = (4 : Int32)) from hs1_4), if_neg (show ¬ (k = (5 : Int32)) from hs1_5), if_neg (show ¬ (k = (6 : Int32)) from hs1_6), if_neg (show ¬ (k = (7 : Int32)) from hs1_7), if_neg (show ¬ (k = (8 : Int32)) from hs1_8), if_neg (show ¬ (k = (9 : Int32)) from hs1_9), if_neg (show ¬ (k = (10 : Int32)) from hs1_10), if_pos (show k = (11 : Int32) from hs1_11), if_neg (show ¬ ((fc_within t (0 : Int32) (7 : Int32)) = (0 : Int32)) from hc255), if_pos (show (fc_within v (0 : Int32) (5 : Int32)) = (0 : Int32) from hc264)]
        rw [e]
        try dsimp only
        exact ⟨rfl, rfl⟩
      · skip
        refine pj_J.go (oX1_fits G) 2 rfl trivial ?_
        refine pj_zret dX1_fits_272 rfl (by first | exact Or.inl rfl | exact Or.inr rfl | exact pj_b01 _ | assumption) ?_
        show _ = _ ∧ _ = _
        have e : fc_fits k t v = (1 : Int32) := by unfold fc_fits; rw [if_neg (show ¬ (k = (0 : Int32)) from hs1_0), if_neg (show ¬ (k = (1 : Int32)) from hs1_1), if_neg (show ¬ (k = (2 : Int32)) from hs1_2), if_neg (show ¬ (k = (3 : Int32)) from hs1_3), if_neg (show ¬ (k = (4 : Int32)) from hs1_4), if_neg (show ¬ (k = (5 : Int32)) from hs1_5), if_neg (show ¬ (k = (6 : Int32)) from hs1_6), if_neg (show ¬ (k = (7 : Int32)) from hs1_7), if_neg (show ¬ (k = (8 : Int32)) from hs1_8), if_neg (show ¬ (k = (9 : Int32)) from hs1_9), if_neg (show ¬ (k = (10 : Int32)) from hs1_10), if_pos (show k = (11 : Int32) from hs1_11), if_neg (show ¬ ((fc_within t (0 : Int32) (7 : Int32)) = (0 : Int32)) from hc255), if_neg (show ¬ ((fc_within v (0 : Int32) (5 : Int32)) = (0 : Int32)) from hc264)]
        rw [e]
        try dsimp only
        exact ⟨rfl, rfl⟩
  refine pj_J.swn ?_
  refine pj_J.go (oX1_fits G) 3 rfl trivial ?_
  refine pj_J.cal0 kX1_fits_277 (c_X1_within t (0 : Int32) (7 : Int32)) trivial pj_le0 pj_le0 pj_le0 ?_
  refine pj_J.go (oX1_fits G) 1 rfl trivial ?_
  refine pj_J.ite (fun hc280 => ?_) (fun hc280 => ?_)
  · skip
    refine pj_J.go (oX1_fits G) 1 rfl trivial ?_
    refine pj_zret dX1_fits_298 rfl (by first | exact Or.inl rfl | exact Or.inr rfl | exact pj_b01 _ | assumption) ?_
    show _ = _ ∧ _ = _
    have e : fc_fits k t v = (0 : Int32) := by unfold fc_fits; rw [if_neg (show ¬ (k = (0 : Int32)) from hs1_0), if_neg (show ¬ (k = (1 : Int32)) from hs1_1), if_neg (show ¬ (k = (2 : Int32)) from hs1_2), if_neg (show ¬ (k = (3 : Int32)) from hs1_3), if_neg (show ¬ (k = (4 : Int32)) from hs1_4), if_neg (show ¬ (k = (5 : Int32)) from hs1_5), if_neg (show ¬ (k = (6 : Int32)) from hs1_6), if_neg (show ¬ (k = (7 : Int32)) from hs1_7), if_neg (show ¬ (k = (8 : Int32)) from hs1_8), if_neg (show ¬ (k = (9 : Int32)) from hs1_9), if_neg (show ¬ (k = (10 : Int32)) from hs1_10), if_neg (show ¬ (k = (11 : Int32)) from hs1_11), if_pos (show (fc_within t (0 : Int32) (7 : Int32)) = (0 : Int32) from hc280)]
    rw [e]
    try dsimp only
    exact ⟨rfl, rfl⟩
  · skip
    refine pj_J.go (oX1_fits G) 3 rfl trivial ?_
    refine pj_J.cal0 kX1_fits_287 (c_X1_within v (1 : Int32) (30 : Int32)) trivial pj_le0 pj_le0 pj_le0 ?_
    refine pj_J.go (oX1_fits G) 1 rfl trivial ?_
    refine pj_J.ite (fun hc290 => ?_) (fun hc290 => ?_)
    · skip
      refine pj_J.go (oX1_fits G) 1 rfl trivial ?_
      refine pj_zret dX1_fits_298 rfl (by first | exact Or.inl rfl | exact Or.inr rfl | exact pj_b01 _ | assumption) ?_
      show _ = _ ∧ _ = _
      have e : fc_fits k t v = (0 : Int32) := by unfold fc_fits; rw [if_neg (show ¬ (k = (0 : Int32)) from hs1_0), if_neg (show ¬ (k = (1 : Int32)) from hs1_1), if_neg (show ¬ (k = (2 : Int32)) from hs1_2), if_neg (show ¬ (k = (3 : Int32)) from hs1_3), if_neg (show ¬ (k = (4 : Int32)) from hs1_4), if_neg (show ¬ (k = (5 : Int32)) from hs1_5), if_neg (show ¬ (k = (6 : Int32)) from hs1_6), if_neg (show ¬ (k = (7 : Int32)) from hs1_7), if_neg (show ¬ (k = (8 : Int32)) from hs1_8), if_neg (show ¬ (k = (9 : Int32)) from hs1_9), if_neg (show ¬ (k = (10 : Int32)) from hs1_10), if_neg (show ¬ (k = (11 : Int32)) from hs1_11), if_neg (show ¬ ((fc_within t (0 : Int32) (7 : Int32)) = (0 : Int32)) from hc280), if_pos (show (fc_within v (1 : Int32) (30 : Int32)) = (0 : Int32) from hc290)]
      rw [e]
      try dsimp only
      exact ⟨rfl, rfl⟩
    · skip
      refine pj_J.go (oX1_fits G) 2 rfl trivial ?_
      refine pj_zret dX1_fits_298 rfl (by first | exact Or.inl rfl | exact Or.inr rfl | exact pj_b01 _ | assumption) ?_
      show _ = _ ∧ _ = _
      have e : fc_fits k t v = (1 : Int32) := by unfold fc_fits; rw [if_neg (show ¬ (k = (0 : Int32)) from hs1_0), if_neg (show ¬ (k = (1 : Int32)) from hs1_1), if_neg (show ¬ (k = (2 : Int32)) from hs1_2), if_neg (show ¬ (k = (3 : Int32)) from hs1_3), if_neg (show ¬ (k = (4 : Int32)) from hs1_4), if_neg (show ¬ (k = (5 : Int32)) from hs1_5), if_neg (show ¬ (k = (6 : Int32)) from hs1_6), if_neg (show ¬ (k = (7 : Int32)) from hs1_7), if_neg (show ¬ (k = (8 : Int32)) from hs1_8), if_neg (show ¬ (k = (9 : Int32)) from hs1_9), if_neg (show ¬ (k = (10 : Int32)) from hs1_10), if_neg (show ¬ (k = (11 : Int32)) from hs1_11), if_neg (show ¬ ((fc_within t (0 : Int32) (7 : Int32)) = (0 : Int32)) from hc280), if_neg (show ¬ ((fc_within v (1 : Int32) (30 : Int32)) = (0 : Int32)) from hc290)]
      rw [e]
      try dsimp only
      exact ⟨rfl, rfl⟩
def fc_span (x : Int32) (y : Int32) (n : Int32) : Int32 := if (fc_within x (-1000000 : Int32) (1000000 : Int32)) = (0 : Int32) then (0 : Int32) else (if (fc_within y (-1000000 : Int32) (1000000 : Int32)) = (0 : Int32) then (0 : Int32) else (if y < x then (0 : Int32) else (if n < (y - x) then (0 : Int32) else (1 : Int32))))
theorem c_X1_span {G : pj_G} {d : Nat} {c : sx_C} {m : sx_M} {o : Nat → Int64} {D : pj_H} (x : Int32) (y : Int32) (n : Int32)  : pj_Rt G mX1_span (d + 1) [.int x, .int y, .int n] (sx_mk c m o D) 0 0 (some (.int (fc_span x y n))) (sx_mk c m o D) := by
  refine pj_Cn.start ?_
  refine pj_J.go (oX1_span G) 3 rfl trivial ?_
  refine pj_J.cal0 kX1_span_5 (c_X1_within x (-1000000 : Int32) (1000000 : Int32)) trivial pj_le0 pj_le0 pj_le0 ?_
  refine pj_J.go (oX1_span G) 1 rfl trivial ?_
  refine pj_J.ite (fun hc8 => ?_) (fun hc8 => ?_)
  · skip
    refine pj_J.go (oX1_span G) 1 rfl trivial ?_
    refine pj_zret dX1_span_39 rfl (by first | exact Or.inl rfl | exact Or.inr rfl | exact pj_b01 _ | assumption) ?_
    show _ = _ ∧ _ = _
    have e : fc_span x y n = (0 : Int32) := by unfold fc_span; rw [if_pos (show (fc_within x (-1000000 : Int32) (1000000 : Int32)) = (0 : Int32) from hc8)]
    rw [e]
    try dsimp only
    exact ⟨rfl, rfl⟩
  · skip
    refine pj_J.go (oX1_span G) 3 rfl trivial ?_
    refine pj_J.cal0 kX1_span_16 (c_X1_within y (-1000000 : Int32) (1000000 : Int32)) trivial pj_le0 pj_le0 pj_le0 ?_
    refine pj_J.go (oX1_span G) 1 rfl trivial ?_
    refine pj_J.ite (fun hc19 => ?_) (fun hc19 => ?_)
    · skip
      refine pj_J.go (oX1_span G) 1 rfl trivial ?_
      refine pj_zret dX1_span_39 rfl (by first | exact Or.inl rfl | exact Or.inr rfl | exact pj_b01 _ | assumption) ?_
      show _ = _ ∧ _ = _
      have e : fc_span x y n = (0 : Int32) := by unfold fc_span; rw [if_neg (show ¬ ((fc_within x (-1000000 : Int32) (1000000 : Int32)) = (0 : Int32)) from hc8), if_pos (show (fc_within y (-1000000 : Int32) (1000000 : Int32)) = (0 : Int32) from hc19)]
      rw [e]
      try dsimp only
      exact ⟨rfl, rfl⟩
    · skip
      refine pj_J.go (oX1_span G) 3 rfl trivial ?_
      refine pj_J.ite (fun hc24 => ?_) (fun hc24 => ?_)
      · skip
        refine pj_J.go (oX1_span G) 1 rfl trivial ?_
        refine pj_zret dX1_span_39 rfl (by first | exact Or.inl rfl | exact Or.inr rfl | exact pj_b01 _ | assumption) ?_
        show _ = _ ∧ _ = _
        have e : fc_span x y n = (0 : Int32) := by unfold fc_span; rw [if_neg (show ¬ ((fc_within x (-1000000 : Int32) (1000000 : Int32)) = (0 : Int32)) from hc8), if_neg (show ¬ ((fc_within y (-1000000 : Int32) (1000000 : Int32)) = (0 : Int32)) from hc19), if_pos (show y < x from hc24)]
        rw [e]
        try dsimp only
        exact ⟨rfl, rfl⟩
      · skip
        refine pj_J.go (oX1_span G) 5 rfl trivial ?_
        refine pj_J.ite (fun hc31 => ?_) (fun hc31 => ?_)
        · skip
          refine pj_J.go (oX1_span G) 1 rfl trivial ?_
          refine pj_zret dX1_span_39 rfl (by first | exact Or.inl rfl | exact Or.inr rfl | exact pj_b01 _ | assumption) ?_
          show _ = _ ∧ _ = _
          have e : fc_span x y n = (0 : Int32) := by unfold fc_span; rw [if_neg (show ¬ ((fc_within x (-1000000 : Int32) (1000000 : Int32)) = (0 : Int32)) from hc8), if_neg (show ¬ ((fc_within y (-1000000 : Int32) (1000000 : Int32)) = (0 : Int32)) from hc19), if_neg (show ¬ (y < x) from hc24), if_pos (show n < (y - x) from hc31)]
          rw [e]
          try dsimp only
          exact ⟨rfl, rfl⟩
        · skip
          refine pj_J.go (oX1_span G) 2 rfl trivial ?_
          refine pj_zret dX1_span_39 rfl (by first | exact Or.inl rfl | exact Or.inr rfl | exact pj_b01 _ | assumption) ?_
          show _ = _ ∧ _ = _
          have e : fc_span x y n = (1 : Int32) := by unfold fc_span; rw [if_neg (show ¬ ((fc_within x (-1000000 : Int32) (1000000 : Int32)) = (0 : Int32)) from hc8), if_neg (show ¬ ((fc_within y (-1000000 : Int32) (1000000 : Int32)) = (0 : Int32)) from hc19), if_neg (show ¬ (y < x) from hc24), if_neg (show ¬ (n < (y - x)) from hc31)]
          rw [e]
          try dsimp only
          exact ⟨rfl, rfl⟩
def fc_up (r : Int32) (e : Int32) (od : Int32) (md : Int32) : Int32 := ((fc_whole ((od.toInt64 * e.toInt64) + r.toInt64) e.toInt64 md) - od.toInt64).toInt32
theorem c_X1_up {G : pj_G} {d : Nat} {c : sx_C} {m : sx_M} {o : Nat → Int64} {D : pj_H} (r : Int32) (e : Int32) (od : Int32) (md : Int32) (hb : ¬ e.toInt64 = 0) : pj_Rt G mX1_up (d + 2) [.int r, .int e, .int od, .int md] (sx_mk c m o D) 0 0 (some (.int (fc_up r e od md))) (sx_mk c m o D) := by
  refine pj_Cn.start ?_
  refine pj_J.go (oX1_up G) 11 rfl trivial ?_
  refine pj_J.cal0 kX1_up_11 (c_X1_whole ((od.toInt64 * e.toInt64) + r.toInt64) e.toInt64 md hb) trivial pj_le0 pj_le0 pj_le0 ?_
  refine pj_J.go (oX1_up G) 4 rfl trivial ?_
  refine pj_iret dX1_up_18 rfl ?_
  show _ = _ ∧ _ = _
  unfold fc_up
  exact ⟨rfl, rfl⟩
def fc_isProgram (u : sx_M) (k : Int32) : Int32 := if k < (0 : Int32) then (0 : Int32) else (if (sx_i u 7) ≤ k then (0 : Int32) else (1 : Int32))
theorem c_X1_isProgram {G : pj_G} {d : Nat} {c : sx_C} {m : sx_M} {o : Nat → Int64} {D : pj_H} (k : Int32)  : pj_Rt G mX1_isProgram (d) [.ref 2, .int k] (sx_mk c m o D) 0 0 (some (.int (fc_isProgram c.1 k))) (sx_mk c m o D) := by
  refine pj_Cn.start ?_
  refine pj_J.go (oX1_isProgram G) 2 rfl trivial ?_
  refine pj_J.ite (fun hc1 => ?_) (fun hc1 => ?_)
  · skip
    refine pj_J.go (oX1_isProgram G) 1 rfl trivial ?_
    refine pj_zret dX1_isProgram_17 rfl (by first | exact Or.inl rfl | exact Or.inr rfl | exact pj_b01 _ | assumption) ?_
    show _ = _ ∧ _ = _
    have e : fc_isProgram c.1 k = (0 : Int32) := by unfold fc_isProgram; rw [if_pos (show k < (0 : Int32) from hc1)]
    rw [e]
    try dsimp only
    exact ⟨rfl, rfl⟩
  · skip
    refine pj_J.go (oX1_isProgram G) 4 rfl trivial ?_
    refine pj_J.ite (fun hc9 => ?_) (fun hc9 => ?_)
    · skip
      refine pj_J.go (oX1_isProgram G) 1 rfl trivial ?_
      refine pj_zret dX1_isProgram_17 rfl (by first | exact Or.inl rfl | exact Or.inr rfl | exact pj_b01 _ | assumption) ?_
      show _ = _ ∧ _ = _
      have e : fc_isProgram c.1 k = (0 : Int32) := by unfold fc_isProgram; rw [if_neg (show ¬ (k < (0 : Int32)) from hc1), if_pos (show (sx_i c.1 7) ≤ k from hc9)]
      rw [e]
      try dsimp only
      exact ⟨rfl, rfl⟩
    · skip
      refine pj_J.go (oX1_isProgram G) 2 rfl trivial ?_
      refine pj_zret dX1_isProgram_17 rfl (by first | exact Or.inl rfl | exact Or.inr rfl | exact pj_b01 _ | assumption) ?_
      show _ = _ ∧ _ = _
      have e : fc_isProgram c.1 k = (1 : Int32) := by unfold fc_isProgram; rw [if_neg (show ¬ (k < (0 : Int32)) from hc1), if_neg (show ¬ ((sx_i c.1 7) ≤ k) from hc9)]
      rw [e]
      try dsimp only
      exact ⟨rfl, rfl⟩
def fc_snag (u : sx_M) (e : Int32) : Int32 × sx_M := (e, sx_si u 24 ((sx_i u 24) + (1 : Int32)))
theorem c_X1_snag {G : pj_G} {d : Nat} {c : sx_C} {m : sx_M} {o : Nat → Int64} {D : pj_H} (e : Int32)  : pj_Rt G mX1_snag (d) [.ref 2, .int e] (sx_mk c m o D) 0 0 (some (.int ((fc_snag c.1 e).1))) (sx_mk (sx_sM c ((fc_snag c.1 e).2)) m o D) := by
  refine pj_Cn.start ?_
  refine pj_J.go (oX1_snag G) 7 rfl trivial ?_
  refine pj_iret dX1_snag_11 rfl ?_
  show _ = _ ∧ _ = _
  unfold fc_snag
  exact ⟨rfl, rfl⟩
def fc_rate (u : sx_M) (k : Int32) (p : Int32) (q : Int32) : Int32 × sx_M := if k < (0 : Int32) then ((-1 : Int32), u) else (if (7 : Int32) < k then ((-1 : Int32), u) else (if p < (0 : Int32) then ((-1 : Int32), u) else (if (10000 : Int32) < p then ((-1 : Int32), u) else (if q < (1 : Int32) then ((-1 : Int32), u) else (if q ≤ (1000 : Int32) then ((0 : Int32), sx_sI (sx_sI u 0 (upd (sx_I u 0) k.toNatClampNeg p)) 1 (upd (sx_I u 1) k.toNatClampNeg q)) else ((-1 : Int32), u))))))
theorem c_X1_rate {G : pj_G} {d : Nat} {c : sx_C} {m : sx_M} {o : Nat → Int64} {D : pj_H} (k : Int32) (p : Int32) (q : Int32)  : pj_Rt G mX1_rate (d) [.ref 2, .int k, .int p, .int q] (sx_mk c m o D) 0 0 (some (.int ((fc_rate c.1 k p q).1))) (sx_mk (sx_sM c ((fc_rate c.1 k p q).2)) m o D) := by
  refine pj_Cn.start ?_
  refine pj_J.go (oX1_rate G) 2 rfl trivial ?_
  refine pj_J.ite (fun hc1 => ?_) (fun hc1 => ?_)
  · skip
    refine pj_J.go (oX1_rate G) 1 rfl trivial ?_
    refine pj_iret dX1_rate_34 rfl ?_
    show _ = _ ∧ _ = _
    have e : fc_rate c.1 k p q = ((-1 : Int32), c.1) := by unfold fc_rate; rw [if_pos (show k < (0 : Int32) from hc1)]
    rw [e]
    try dsimp only
    exact ⟨rfl, rfl⟩
  · skip
    refine pj_J.go (oX1_rate G) 3 rfl trivial ?_
    refine pj_J.ite (fun hc7 => ?_) (fun hc7 => ?_)
    · skip
      refine pj_J.go (oX1_rate G) 1 rfl trivial ?_
      refine pj_iret dX1_rate_34 rfl ?_
      show _ = _ ∧ _ = _
      have e : fc_rate c.1 k p q = ((-1 : Int32), c.1) := by unfold fc_rate; rw [if_neg (show ¬ (k < (0 : Int32)) from hc1), if_pos (show (7 : Int32) < k from hc7)]
      rw [e]
      try dsimp only
      exact ⟨rfl, rfl⟩
    · skip
      refine pj_J.go (oX1_rate G) 2 rfl trivial ?_
      refine pj_J.ite (fun hc11 => ?_) (fun hc11 => ?_)
      · skip
        refine pj_J.go (oX1_rate G) 1 rfl trivial ?_
        refine pj_iret dX1_rate_34 rfl ?_
        show _ = _ ∧ _ = _
        have e : fc_rate c.1 k p q = ((-1 : Int32), c.1) := by unfold fc_rate; rw [if_neg (show ¬ (k < (0 : Int32)) from hc1), if_neg (show ¬ ((7 : Int32) < k) from hc7), if_pos (show p < (0 : Int32) from hc11)]
        rw [e]
        try dsimp only
        exact ⟨rfl, rfl⟩
      · skip
        refine pj_J.go (oX1_rate G) 3 rfl trivial ?_
        refine pj_J.ite (fun hc18 => ?_) (fun hc18 => ?_)
        · skip
          refine pj_J.go (oX1_rate G) 1 rfl trivial ?_
          refine pj_iret dX1_rate_34 rfl ?_
          show _ = _ ∧ _ = _
          have e : fc_rate c.1 k p q = ((-1 : Int32), c.1) := by unfold fc_rate; rw [if_neg (show ¬ (k < (0 : Int32)) from hc1), if_neg (show ¬ ((7 : Int32) < k) from hc7), if_neg (show ¬ (p < (0 : Int32)) from hc11), if_pos (show (10000 : Int32) < p from hc18)]
          rw [e]
          try dsimp only
          exact ⟨rfl, rfl⟩
        · skip
          refine pj_J.go (oX1_rate G) 3 rfl trivial ?_
          refine pj_J.ite (fun hc23 => ?_) (fun hc23 => ?_)
          · skip
            refine pj_J.go (oX1_rate G) 1 rfl trivial ?_
            refine pj_iret dX1_rate_34 rfl ?_
            show _ = _ ∧ _ = _
            have e : fc_rate c.1 k p q = ((-1 : Int32), c.1) := by unfold fc_rate; rw [if_neg (show ¬ (k < (0 : Int32)) from hc1), if_neg (show ¬ ((7 : Int32) < k) from hc7), if_neg (show ¬ (p < (0 : Int32)) from hc11), if_neg (show ¬ ((10000 : Int32) < p) from hc18), if_pos (show q < (1 : Int32) from hc23)]
            rw [e]
            try dsimp only
            exact ⟨rfl, rfl⟩
          · skip
            refine pj_J.go (oX1_rate G) 3 rfl trivial ?_
            refine pj_J.ite (fun hc30 => ?_) (fun hc30 => ?_)
            · skip
              refine pj_J.go (oX1_rate G) 11 rfl ⟨by exact vp_rng (n := 7) hc1 hc7, by exact vp_rng (n := 7) hc1 hc7, trivial⟩ ?_
              refine pj_iret dX1_rate_50 rfl ?_
              show _ = _ ∧ _ = _
              have e : fc_rate c.1 k p q = ((0 : Int32), sx_sI (sx_sI c.1 0 (upd (sx_I c.1 0) k.toNatClampNeg p)) 1 (upd (sx_I c.1 1) k.toNatClampNeg q)) := by unfold fc_rate; rw [if_neg (show ¬ (k < (0 : Int32)) from hc1), if_neg (show ¬ ((7 : Int32) < k) from hc7), if_neg (show ¬ (p < (0 : Int32)) from hc11), if_neg (show ¬ ((10000 : Int32) < p) from hc18), if_neg (show ¬ (q < (1 : Int32)) from hc23), if_pos (show q ≤ (1000 : Int32) from hc30)]
              rw [e]
              try dsimp only
              exact ⟨rfl, rfl⟩
            · skip
              refine pj_J.go (oX1_rate G) 1 rfl trivial ?_
              refine pj_iret dX1_rate_34 rfl ?_
              show _ = _ ∧ _ = _
              have e : fc_rate c.1 k p q = ((-1 : Int32), c.1) := by unfold fc_rate; rw [if_neg (show ¬ (k < (0 : Int32)) from hc1), if_neg (show ¬ ((7 : Int32) < k) from hc7), if_neg (show ¬ (p < (0 : Int32)) from hc11), if_neg (show ¬ ((10000 : Int32) < p) from hc18), if_neg (show ¬ (q < (1 : Int32)) from hc23), if_neg (show ¬ (q ≤ (1000 : Int32)) from hc30)]
              rw [e]
              try dsimp only
              exact ⟨rfl, rfl⟩
def fc_line (u : sx_M) (x : Int32) : Int32 × sx_M := if x < (-1000000 : Int32) then ((-1 : Int32), u) else (if x ≤ (1000000 : Int32) then (if (sx_i u 3) = (12 : Int32) then ((-2 : Int32), u) else (((sx_i u 3) + (1 : Int32)), sx_si (sx_sI u 2 (upd (sx_I u 2) (sx_i u 3).toNatClampNeg x)) 3 ((sx_i u 3) + (1 : Int32)))) else ((-1 : Int32), u))
theorem c_X1_line {G : pj_G} {d : Nat} {c : sx_C} {m : sx_M} {o : Nat → Int64} {D : pj_H} (x : Int32) (hl : vp_in (sx_i c.1 3) 13) : pj_Rt G mX1_line (d) [.ref 2, .int x] (sx_mk c m o D) 0 0 (some (.int ((fc_line c.1 x).1))) (sx_mk (sx_sM c ((fc_line c.1 x).2)) m o D) := by
  refine pj_Cn.start ?_
  refine pj_J.go (oX1_line G) 3 rfl trivial ?_
  refine pj_J.ite (fun hc3 => ?_) (fun hc3 => ?_)
  · skip
    refine pj_J.go (oX1_line G) 1 rfl trivial ?_
    refine pj_iret dX1_line_13 rfl ?_
    show _ = _ ∧ _ = _
    have e : fc_line c.1 x = ((-1 : Int32), c.1) := by unfold fc_line; rw [if_pos (show x < (-1000000 : Int32) from hc3)]
    rw [e]
    try dsimp only
    exact ⟨rfl, rfl⟩
  · skip
    refine pj_J.go (oX1_line G) 3 rfl trivial ?_
    refine pj_J.ite (fun hc9 => ?_) (fun hc9 => ?_)
    · skip
      refine pj_J.go (oX1_line G) 4 rfl trivial ?_
      refine pj_J.ite (fun hc20 => ?_) (fun hc20 => ?_)
      · skip
        refine pj_J.go (oX1_line G) 1 rfl trivial ?_
        refine pj_iret dX1_line_25 rfl ?_
        show _ = _ ∧ _ = _
        have e : fc_line c.1 x = ((-2 : Int32), c.1) := by unfold fc_line; rw [if_neg (show ¬ (x < (-1000000 : Int32)) from hc3), if_pos (show x ≤ (1000000 : Int32) from hc9), if_pos (show (sx_i c.1 3) = (12 : Int32) from hc20)]
        rw [e]
        try dsimp only
        exact ⟨rfl, rfl⟩
      · skip
        refine pj_J.go (oX1_line G) 14 rfl ⟨by exact vp_up (n := 12) hl hc20, trivial⟩ ?_
        refine pj_iret dX1_line_50 rfl ?_
        show _ = _ ∧ _ = _
        have e : fc_line c.1 x = (((sx_i c.1 3) + (1 : Int32)), sx_si (sx_sI c.1 2 (upd (sx_I c.1 2) (sx_i c.1 3).toNatClampNeg x)) 3 ((sx_i c.1 3) + (1 : Int32))) := by unfold fc_line; rw [if_neg (show ¬ (x < (-1000000 : Int32)) from hc3), if_pos (show x ≤ (1000000 : Int32) from hc9), if_neg (show ¬ ((sx_i c.1 3) = (12 : Int32)) from hc20)]
        rw [e]
        try dsimp only
        exact ⟨rfl, rfl⟩
    · skip
      refine pj_J.go (oX1_line G) 1 rfl trivial ?_
      refine pj_iret dX1_line_13 rfl ?_
      show _ = _ ∧ _ = _
      have e : fc_line c.1 x = ((-1 : Int32), c.1) := by unfold fc_line; rw [if_neg (show ¬ (x < (-1000000 : Int32)) from hc3), if_neg (show ¬ (x ≤ (1000000 : Int32)) from hc9)]
      rw [e]
      try dsimp only
      exact ⟨rfl, rfl⟩
def fc_bare (u : sx_M)  : Int32 × sx_M := ((sx_i u 3), sx_si u 3 (0 : Int32))
theorem c_X1_bare {G : pj_G} {d : Nat} {c : sx_C} {m : sx_M} {o : Nat → Int64} {D : pj_H}   : pj_Rt G mX1_bare (d) [.ref 2] (sx_mk c m o D) 0 0 (some (.int ((fc_bare c.1).1))) (sx_mk (sx_sM c ((fc_bare c.1).2)) m o D) := by
  refine pj_Cn.start ?_
  refine pj_J.go (oX1_bare G) 7 rfl trivial ?_
  refine pj_iret dX1_bare_11 rfl ?_
  show _ = _ ∧ _ = _
  unfold fc_bare
  exact ⟨rfl, rfl⟩
theorem vp_row2 {x y : Int32} {p q : Nat} (hx : vp_in x p) (hy : vp_in y q) (hN : q * p < 2 ^ 31) (hp : p < 2 ^ 31 := by decide) (hq : q < 2 ^ 31 := by decide) : vp_in (x * nI q + y) (q * p) := by
  rw [Int32.mul_comm]
  exact vp_row hx hy hN hp hq
def fc_weight (u : sx_M) (set : Int32) (w : Int32) : Int32 × sx_M := if set < (0 : Int32) then ((-1 : Int32), u) else (if (3 : Int32) < set then ((-1 : Int32), u) else (if w < (-1 : Int32) then ((-1 : Int32), u) else (if w ≤ (1000 : Int32) then (if w = (-1 : Int32) then ((0 : Int32), sx_sI u 5 (upd (sx_I u 5) set.toNatClampNeg (0 : Int32))) else (if (sx_I u 5 set.toNatClampNeg) = (8 : Int32) then ((-2 : Int32), u) else (((upd (sx_I u 5) set.toNatClampNeg ((sx_I u 5 set.toNatClampNeg) + (1 : Int32))) set.toNatClampNeg), sx_sI (sx_sI u 4 (upd (sx_I u 4) ((set * (8 : Int32)) + (sx_I u 5 set.toNatClampNeg)).toNatClampNeg w)) 5 (upd (sx_I u 5) set.toNatClampNeg ((sx_I u 5 set.toNatClampNeg) + (1 : Int32)))))) else ((-1 : Int32), u))))
theorem c_X1_weight {G : pj_G} {d : Nat} {c : sx_C} {m : sx_M} {o : Nat → Int64} {D : pj_H} (set : Int32) (w : Int32) (hw : ∀ k, k < 4 → vp_in (sx_I c.1 5 k) 9) : pj_Rt G mX1_weight (d) [.ref 2, .int set, .int w] (sx_mk c m o D) 0 0 (some (.int ((fc_weight c.1 set w).1))) (sx_mk (sx_sM c ((fc_weight c.1 set w).2)) m o D) := by
  refine pj_Cn.start ?_
  refine pj_J.go (oX1_weight G) 2 rfl trivial ?_
  refine pj_J.ite (fun hc1 => ?_) (fun hc1 => ?_)
  · skip
    refine pj_J.go (oX1_weight G) 1 rfl trivial ?_
    refine pj_iret dX1_weight_22 rfl ?_
    show _ = _ ∧ _ = _
    have e : fc_weight c.1 set w = ((-1 : Int32), c.1) := by unfold fc_weight; rw [if_pos (show set < (0 : Int32) from hc1)]
    rw [e]
    try dsimp only
    exact ⟨rfl, rfl⟩
  · skip
    refine pj_J.go (oX1_weight G) 3 rfl trivial ?_
    refine pj_J.ite (fun hc6 => ?_) (fun hc6 => ?_)
    · skip
      refine pj_J.go (oX1_weight G) 1 rfl trivial ?_
      refine pj_iret dX1_weight_22 rfl ?_
      show _ = _ ∧ _ = _
      have e : fc_weight c.1 set w = ((-1 : Int32), c.1) := by unfold fc_weight; rw [if_neg (show ¬ (set < (0 : Int32)) from hc1), if_pos (show (3 : Int32) < set from hc6)]
      rw [e]
      try dsimp only
      exact ⟨rfl, rfl⟩
    · skip
      refine pj_J.go (oX1_weight G) 3 rfl trivial ?_
      refine pj_J.ite (fun hc11 => ?_) (fun hc11 => ?_)
      · skip
        refine pj_J.go (oX1_weight G) 1 rfl trivial ?_
        refine pj_iret dX1_weight_22 rfl ?_
        show _ = _ ∧ _ = _
        have e : fc_weight c.1 set w = ((-1 : Int32), c.1) := by unfold fc_weight; rw [if_neg (show ¬ (set < (0 : Int32)) from hc1), if_neg (show ¬ ((3 : Int32) < set) from hc6), if_pos (show w < (-1 : Int32) from hc11)]
        rw [e]
        try dsimp only
        exact ⟨rfl, rfl⟩
      · skip
        refine pj_J.go (oX1_weight G) 3 rfl trivial ?_
        refine pj_J.ite (fun hc18 => ?_) (fun hc18 => ?_)
        · skip
          refine pj_J.go (oX1_weight G) 3 rfl trivial ?_
          refine pj_J.ite (fun hc25 => ?_) (fun hc25 => ?_)
          · skip
            refine pj_J.go (oX1_weight G) 6 rfl ⟨by exact vp_rng (n := 3) hc1 hc6, trivial⟩ ?_
            refine pj_iret dX1_weight_36 rfl ?_
            show _ = _ ∧ _ = _
            have e : fc_weight c.1 set w = ((0 : Int32), sx_sI c.1 5 (upd (sx_I c.1 5) set.toNatClampNeg (0 : Int32))) := by unfold fc_weight; rw [if_neg (show ¬ (set < (0 : Int32)) from hc1), if_neg (show ¬ ((3 : Int32) < set) from hc6), if_neg (show ¬ (w < (-1 : Int32)) from hc11), if_pos (show w ≤ (1000 : Int32) from hc18), if_pos (show w = (-1 : Int32) from hc25)]
            rw [e]
            try dsimp only
            exact ⟨rfl, rfl⟩
          · skip
            refine pj_J.go (oX1_weight G) 6 rfl ⟨by exact vp_rng (n := 3) hc1 hc6, trivial⟩ ?_
            refine pj_J.ite (fun hc45 => ?_) (fun hc45 => ?_)
            · skip
              refine pj_J.go (oX1_weight G) 1 rfl trivial ?_
              refine pj_iret dX1_weight_50 rfl ?_
              show _ = _ ∧ _ = _
              have e : fc_weight c.1 set w = ((-2 : Int32), c.1) := by unfold fc_weight; rw [if_neg (show ¬ (set < (0 : Int32)) from hc1), if_neg (show ¬ ((3 : Int32) < set) from hc6), if_neg (show ¬ (w < (-1 : Int32)) from hc11), if_pos (show w ≤ (1000 : Int32) from hc18), if_neg (show ¬ (w = (-1 : Int32)) from hc25), if_pos (show (sx_I c.1 5 set.toNatClampNeg) = (8 : Int32) from hc45)]
              rw [e]
              try dsimp only
              exact ⟨rfl, rfl⟩
            · skip
              refine pj_J.go (oX1_weight G) 24 rfl ⟨by exact vp_rng (n := 3) hc1 hc6, by exact vp_row2 (p := 4) (q := 8) (vp_rng (n := 3) hc1 hc6) (vp_up (n := 8) (hw _ (vp_lt (vp_rng (n := 3) hc1 hc6))) hc45) (by decide), by exact vp_rng (n := 3) hc1 hc6, by exact vp_rng (n := 3) hc1 hc6, by exact vp_rng (n := 3) hc1 hc6, trivial⟩ ?_
              refine pj_iret dX1_weight_84 rfl ?_
              show _ = _ ∧ _ = _
              have e : fc_weight c.1 set w = (((upd (sx_I c.1 5) set.toNatClampNeg ((sx_I c.1 5 set.toNatClampNeg) + (1 : Int32))) set.toNatClampNeg), sx_sI (sx_sI c.1 4 (upd (sx_I c.1 4) ((set * (8 : Int32)) + (sx_I c.1 5 set.toNatClampNeg)).toNatClampNeg w)) 5 (upd (sx_I c.1 5) set.toNatClampNeg ((sx_I c.1 5 set.toNatClampNeg) + (1 : Int32)))) := by unfold fc_weight; rw [if_neg (show ¬ (set < (0 : Int32)) from hc1), if_neg (show ¬ ((3 : Int32) < set) from hc6), if_neg (show ¬ (w < (-1 : Int32)) from hc11), if_pos (show w ≤ (1000 : Int32) from hc18), if_neg (show ¬ (w = (-1 : Int32)) from hc25), if_neg (show ¬ ((sx_I c.1 5 set.toNatClampNeg) = (8 : Int32)) from hc45)]
              rw [e]
              try dsimp only
              exact ⟨rfl, rfl⟩
        · skip
          refine pj_J.go (oX1_weight G) 1 rfl trivial ?_
          refine pj_iret dX1_weight_22 rfl ?_
          show _ = _ ∧ _ = _
          have e : fc_weight c.1 set w = ((-1 : Int32), c.1) := by unfold fc_weight; rw [if_neg (show ¬ (set < (0 : Int32)) from hc1), if_neg (show ¬ ((3 : Int32) < set) from hc6), if_neg (show ¬ (w < (-1 : Int32)) from hc11), if_neg (show ¬ (w ≤ (1000 : Int32)) from hc18)]
          rw [e]
          try dsimp only
          exact ⟨rfl, rfl⟩
def fc_failed (u : sx_M)  : Int32 := (sx_i u 15)
theorem c_X1_failed {G : pj_G} {d : Nat} {c : sx_C} {m : sx_M} {o : Nat → Int64} {D : pj_H}   : pj_Rt G mX1_failed (d) [.ref 2] (sx_mk c m o D) 0 0 (some (.int (fc_failed c.1))) (sx_mk c m o D) := by
  refine pj_Cn.start ?_
  refine pj_J.go (oX1_failed G) 2 rfl trivial ?_
  refine pj_iret dX1_failed_4 rfl ?_
  show _ = _ ∧ _ = _
  unfold fc_failed
  exact ⟨rfl, rfl⟩
def fc_weightOf (u : sx_M) (set : Int32) (k : Int32) (sum : Int32) : Int32 := if sum = (0 : Int32) then (if (2 : Int32) ≤ k then (0 : Int32) else (1 : Int32)) else (sx_I u 4 ((set * (8 : Int32)) + k).toNatClampNeg)
theorem c_X1_weightOf {G : pj_G} {d : Nat} {c : sx_C} {m : sx_M} {o : Nat → Int64} {D : pj_H} (set : Int32) (k : Int32) (sum : Int32) (hs : vp_in set 4) (hk : vp_in k 8) : pj_Rt G mX1_weightOf (d) [.ref 2, .int set, .int k, .int sum] (sx_mk c m o D) 0 0 (some (.int (fc_weightOf c.1 set k sum))) (sx_mk c m o D) := by
  refine pj_Cn.start ?_
  refine pj_J.go (oX1_weightOf G) 2 rfl trivial ?_
  refine pj_J.ite (fun hc1 => ?_) (fun hc1 => ?_)
  · skip
    refine pj_J.go (oX1_weightOf G) 3 rfl trivial ?_
    refine pj_J.ite (fun hc6 => ?_) (fun hc6 => ?_)
    · skip
      refine pj_J.go (oX1_weightOf G) 2 rfl trivial ?_
      refine pj_iret dX1_weightOf_28 rfl ?_
      show _ = _ ∧ _ = _
      have e : fc_weightOf c.1 set k sum = (0 : Int32) := by unfold fc_weightOf; rw [if_pos (show sum = (0 : Int32) from hc1), if_pos (show (2 : Int32) ≤ k from hc6)]
      rw [e]
      try dsimp only
      exact ⟨rfl, rfl⟩
    · skip
      refine pj_J.go (oX1_weightOf G) 2 rfl trivial ?_
      refine pj_iret dX1_weightOf_28 rfl ?_
      show _ = _ ∧ _ = _
      have e : fc_weightOf c.1 set k sum = (1 : Int32) := by unfold fc_weightOf; rw [if_pos (show sum = (0 : Int32) from hc1), if_neg (show ¬ ((2 : Int32) ≤ k) from hc6)]
      rw [e]
      try dsimp only
      exact ⟨rfl, rfl⟩
  · skip
    refine pj_J.go (oX1_weightOf G) 8 rfl ⟨by exact vp_row2 (p := 4) (q := 8) hs hk (by decide), trivial⟩ ?_
    refine pj_iret dX1_weightOf_28 rfl ?_
    show _ = _ ∧ _ = _
    have e : fc_weightOf c.1 set k sum = (sx_I c.1 4 ((set * (8 : Int32)) + k).toNatClampNeg) := by unfold fc_weightOf; rw [if_neg (show ¬ (sum = (0 : Int32)) from hc1)]
    rw [e]
    try dsimp only
    exact ⟨rfl, rfl⟩
def fc_swap (u : sx_M) (i : Int32) (j : Int32) : sx_M := sx_sI u 16 (upd (upd (sx_I u 16) i.toNatClampNeg (sx_I u 16 j.toNatClampNeg)) j.toNatClampNeg (sx_I u 16 i.toNatClampNeg))
theorem c_X1_swap {G : pj_G} {d : Nat} {c : sx_C} {m : sx_M} {o : Nat → Int64} {D : pj_H} (i : Int32) (j : Int32) (hi : vp_in i 6) (hj : vp_in j 6) : pj_Rt G mX1_swap (d) [.ref 2, .int i, .int j] (sx_mk c m o D) 0 0 none (sx_mk (sx_sM c (fc_swap c.1 i j)) m o D) := by
  refine pj_Cn.start ?_
  refine pj_J.go (oX1_swap G) 18 rfl ⟨by exact hi, by exact hj, by exact hi, by exact hj, trivial⟩ ?_
  refine pj_vret dX1_swap_26 rfl ?_
  show _ = _ ∧ _ = _
  unfold fc_swap
  exact ⟨rfl, rfl⟩
def fr_isWhole (u : sx_M) (s : Int32) : Int32 := if (sx_L u 1 s.toNatClampNeg) = (1 : Int64) then (1 : Int32) else (0 : Int32)
theorem c_X2_isWhole_0 {G : pj_G} {d : Nat} {c : sx_C} {m : sx_M} {o : Nat → Int64} {D : pj_H} (s : Int32) (hs : vp_in s 8) : pj_Rt G mX2_isWhole (d) [.ref 10, .int s] (sx_mk c m o D) 0 0 (some (.int (fr_isWhole (sx_R c 0) s))) (sx_mk c m o D) := by
  refine pj_Cn.start ?_
  refine pj_J.go (oX2_isWhole G) 7 rfl ⟨by exact hs, trivial⟩ ?_
  refine pj_J.ite (fun hc8 => ?_) (fun hc8 => ?_)
  · simp only [pj_lc_eq] at hc8
    refine pj_J.go (oX2_isWhole G) 2 rfl trivial ?_
    refine pj_zret dX2_isWhole_16 rfl (by first | exact Or.inl rfl | exact Or.inr rfl | exact pj_b01 _ | assumption) ?_
    show _ = _ ∧ _ = _
    have e : fr_isWhole (sx_R c 0) s = (1 : Int32) := by unfold fr_isWhole; rw [if_pos (show (sx_L (sx_R c 0) 1 s.toNatClampNeg) = (1 : Int64) from hc8)]
    rw [e]
    try dsimp only
    exact ⟨rfl, rfl⟩
  · simp only [pj_lc_eq] at hc8
    refine pj_J.go (oX2_isWhole G) 1 rfl trivial ?_
    refine pj_zret dX2_isWhole_16 rfl (by first | exact Or.inl rfl | exact Or.inr rfl | exact pj_b01 _ | assumption) ?_
    show _ = _ ∧ _ = _
    have e : fr_isWhole (sx_R c 0) s = (0 : Int32) := by unfold fr_isWhole; rw [if_neg (show ¬ ((sx_L (sx_R c 0) 1 s.toNatClampNeg) = (1 : Int64)) from hc8)]
    rw [e]
    try dsimp only
    exact ⟨rfl, rfl⟩
theorem c_X2_isWhole_1 {G : pj_G} {d : Nat} {c : sx_C} {m : sx_M} {o : Nat → Int64} {D : pj_H} (s : Int32) (hs : vp_in s 8) : pj_Rt G mX2_isWhole (d) [.ref 21, .int s] (sx_mk c m o D) 0 0 (some (.int (fr_isWhole (sx_R c 1) s))) (sx_mk c m o D) := by
  refine pj_Cn.start ?_
  refine pj_J.go (oX2_isWhole G) 7 rfl ⟨by exact hs, trivial⟩ ?_
  refine pj_J.ite (fun hc8 => ?_) (fun hc8 => ?_)
  · simp only [pj_lc_eq] at hc8
    refine pj_J.go (oX2_isWhole G) 2 rfl trivial ?_
    refine pj_zret dX2_isWhole_16 rfl (by first | exact Or.inl rfl | exact Or.inr rfl | exact pj_b01 _ | assumption) ?_
    show _ = _ ∧ _ = _
    have e : fr_isWhole (sx_R c 1) s = (1 : Int32) := by unfold fr_isWhole; rw [if_pos (show (sx_L (sx_R c 1) 1 s.toNatClampNeg) = (1 : Int64) from hc8)]
    rw [e]
    try dsimp only
    exact ⟨rfl, rfl⟩
  · simp only [pj_lc_eq] at hc8
    refine pj_J.go (oX2_isWhole G) 1 rfl trivial ?_
    refine pj_zret dX2_isWhole_16 rfl (by first | exact Or.inl rfl | exact Or.inr rfl | exact pj_b01 _ | assumption) ?_
    show _ = _ ∧ _ = _
    have e : fr_isWhole (sx_R c 1) s = (0 : Int32) := by unfold fr_isWhole; rw [if_neg (show ¬ ((sx_L (sx_R c 1) 1 s.toNatClampNeg) = (1 : Int64)) from hc8)]
    rw [e]
    try dsimp only
    exact ⟨rfl, rfl⟩
theorem c_X2_isWhole_2 {G : pj_G} {d : Nat} {c : sx_C} {m : sx_M} {o : Nat → Int64} {D : pj_H} (s : Int32) (hs : vp_in s 8) : pj_Rt G mX2_isWhole (d) [.ref 32, .int s] (sx_mk c m o D) 0 0 (some (.int (fr_isWhole (sx_R c 2) s))) (sx_mk c m o D) := by
  refine pj_Cn.start ?_
  refine pj_J.go (oX2_isWhole G) 7 rfl ⟨by exact hs, trivial⟩ ?_
  refine pj_J.ite (fun hc8 => ?_) (fun hc8 => ?_)
  · simp only [pj_lc_eq] at hc8
    refine pj_J.go (oX2_isWhole G) 2 rfl trivial ?_
    refine pj_zret dX2_isWhole_16 rfl (by first | exact Or.inl rfl | exact Or.inr rfl | exact pj_b01 _ | assumption) ?_
    show _ = _ ∧ _ = _
    have e : fr_isWhole (sx_R c 2) s = (1 : Int32) := by unfold fr_isWhole; rw [if_pos (show (sx_L (sx_R c 2) 1 s.toNatClampNeg) = (1 : Int64) from hc8)]
    rw [e]
    try dsimp only
    exact ⟨rfl, rfl⟩
  · simp only [pj_lc_eq] at hc8
    refine pj_J.go (oX2_isWhole G) 1 rfl trivial ?_
    refine pj_zret dX2_isWhole_16 rfl (by first | exact Or.inl rfl | exact Or.inr rfl | exact pj_b01 _ | assumption) ?_
    show _ = _ ∧ _ = _
    have e : fr_isWhole (sx_R c 2) s = (0 : Int32) := by unfold fr_isWhole; rw [if_neg (show ¬ ((sx_L (sx_R c 2) 1 s.toNatClampNeg) = (1 : Int64)) from hc8)]
    rw [e]
    try dsimp only
    exact ⟨rfl, rfl⟩
theorem c_X2_p_0 {G : pj_G} {d : Nat} {c : sx_C} {m : sx_M} {o : Nat → Int64} {D : pj_H} (t : Int32) (ht : vp_in t 8) : pj_Rt G mX2_p d [.ref 10, .int t] (sx_mk c m o D) 0 0 (some (.int (sx_I c.1 0 t.toNatClampNeg))) (sx_mk c m o D) := by
  refine pj_Cn.start ?_
  refine pj_J.go (oX2_p G) 5 rfl ⟨by exact ht, trivial⟩ ?_
  exact pj_iret dX2_p_9 rfl ⟨rfl, rfl⟩
theorem c_X2_p_1 {G : pj_G} {d : Nat} {c : sx_C} {m : sx_M} {o : Nat → Int64} {D : pj_H} (t : Int32) (ht : vp_in t 8) : pj_Rt G mX2_p d [.ref 21, .int t] (sx_mk c m o D) 0 0 (some (.int (sx_I c.1 0 t.toNatClampNeg))) (sx_mk c m o D) := by
  refine pj_Cn.start ?_
  refine pj_J.go (oX2_p G) 5 rfl ⟨by exact ht, trivial⟩ ?_
  exact pj_iret dX2_p_9 rfl ⟨rfl, rfl⟩
theorem c_X2_p_2 {G : pj_G} {d : Nat} {c : sx_C} {m : sx_M} {o : Nat → Int64} {D : pj_H} (t : Int32) (ht : vp_in t 8) : pj_Rt G mX2_p d [.ref 32, .int t] (sx_mk c m o D) 0 0 (some (.int (sx_I c.1 0 t.toNatClampNeg))) (sx_mk c m o D) := by
  refine pj_Cn.start ?_
  refine pj_J.go (oX2_p G) 5 rfl ⟨by exact ht, trivial⟩ ?_
  exact pj_iret dX2_p_9 rfl ⟨rfl, rfl⟩
theorem c_X2_q_0 {G : pj_G} {d : Nat} {c : sx_C} {m : sx_M} {o : Nat → Int64} {D : pj_H} (t : Int32) (ht : vp_in t 8) : pj_Rt G mX2_q d [.ref 10, .int t] (sx_mk c m o D) 0 0 (some (.int (sx_I c.1 1 t.toNatClampNeg))) (sx_mk c m o D) := by
  refine pj_Cn.start ?_
  refine pj_J.go (oX2_q G) 5 rfl ⟨by exact ht, trivial⟩ ?_
  exact pj_iret dX2_q_9 rfl ⟨rfl, rfl⟩
theorem c_X2_q_1 {G : pj_G} {d : Nat} {c : sx_C} {m : sx_M} {o : Nat → Int64} {D : pj_H} (t : Int32) (ht : vp_in t 8) : pj_Rt G mX2_q d [.ref 21, .int t] (sx_mk c m o D) 0 0 (some (.int (sx_I c.1 1 t.toNatClampNeg))) (sx_mk c m o D) := by
  refine pj_Cn.start ?_
  refine pj_J.go (oX2_q G) 5 rfl ⟨by exact ht, trivial⟩ ?_
  exact pj_iret dX2_q_9 rfl ⟨rfl, rfl⟩
theorem c_X2_q_2 {G : pj_G} {d : Nat} {c : sx_C} {m : sx_M} {o : Nat → Int64} {D : pj_H} (t : Int32) (ht : vp_in t 8) : pj_Rt G mX2_q d [.ref 32, .int t] (sx_mk c m o D) 0 0 (some (.int (sx_I c.1 1 t.toNatClampNeg))) (sx_mk c m o D) := by
  refine pj_Cn.start ?_
  refine pj_J.go (oX2_q G) 5 rfl ⟨by exact ht, trivial⟩ ?_
  exact pj_iret dX2_q_9 rfl ⟨rfl, rfl⟩
