/-! PennyJudgeModel: small methods (by tools/gen_m2.py) -/
set_option maxRecDepth 100000
theorem fm_in_vp {x : Int32} {n : Nat} (h : ¬ fm_in x 0 (nI n) = 0) (hn : n + 1 < 2 ^ 31 := by decide) : vp_in x (n + 1) := by
  unfold fm_in at h
  rw [pj_b_eq0] at h
  have h := Classical.not_not.mp h
  rw [vp_in_iff]
  simp only [Int32.le_iff_toInt_le] at h
  rw [nI_toInt (by omega)] at h
  have h0 : (0 : Int32).toInt = 0 := rfl
  omega
def fm_refuse (m : sx_M) (r : Int32) : Int32 × sx_M := (r, sx_si m 15 (sx_i m 15 + 1))
theorem c_X4_thrown {G : pj_G} {d : Nat} {c : sx_C} {m : sx_M} {o : Nat → Int64} {D : pj_H} : pj_Rt G mX4_thrown d [.ref 59] (sx_mk c m o D) 0 0 (some (.int (sx_i m 0))) (sx_mk c m o D) := by
  refine pj_Cn.start ?_
  refine pj_J.go (oX4_thrown G) 2 rfl trivial ?_
  exact pj_iret dX4_thrown_4 rfl ⟨rfl, rfl⟩
theorem c_X4_failed {G : pj_G} {d : Nat} {c : sx_C} {m : sx_M} {o : Nat → Int64} {D : pj_H} : pj_Rt G mX4_failed d [.ref 59] (sx_mk c m o D) 0 0 (some (.int (sx_i m 14))) (sx_mk c m o D) := by
  refine pj_Cn.start ?_
  refine pj_J.go (oX4_failed G) 2 rfl trivial ?_
  exact pj_iret dX4_failed_4 rfl ⟨rfl, rfl⟩
theorem c_X4_refuse {G : pj_G} {d : Nat} {c : sx_C} {m : sx_M} {o : Nat → Int64} {D : pj_H} (r : Int32)  : pj_Rt G mX4_refuse (d) [.ref 59, .int r] (sx_mk c m o D) 0 0 (some (.int (fm_refuse m r).1)) (sx_mk c (fm_refuse m r).2 o D) := by
  refine pj_Cn.start ?_
  refine pj_J.go (oX4_refuse G) 7 rfl trivial ?_
  refine pj_iret dX4_refuse_11 rfl ?_
  show _ = _ ∧ _ = _
  unfold fm_refuse
  skip
  exact ⟨rfl, rfl⟩
def fm_rate (m : sx_M) (k p q : Int32) : Int32 × sx_M := if fm_in k 0 7 = 0 then (-1, m) else if fm_in p 0 10000 = 0 then (-1, m) else if fm_in q 1 1000 = 0 then (-1, m) else
  (0, sx_sI (sx_sI m 1 (upd (sx_I m 1) k.toNatClampNeg p)) 2 (upd (sx_I m 2) k.toNatClampNeg q))
theorem c_X4_rate {G : pj_G} {d : Nat} {c : sx_C} {m : sx_M} {o : Nat → Int64} {D : pj_H} (k : Int32) (p : Int32) (q : Int32)  : pj_Rt G mX4_rate (d + 1) [.ref 59, .int k, .int p, .int q] (sx_mk c m o D) 0 0 (some (.int (fm_rate m k p q).1)) (sx_mk c (fm_rate m k p q).2 o D) := by
  refine pj_Cn.start ?_
  refine pj_J.go (oX4_rate G) 3 rfl trivial ?_
  refine pj_J.cal0 kX4_rate_4 (c_X4_in _ _ _) trivial pj_le0 pj_le0 pj_le0 ?_
  refine pj_J.go (oX4_rate G) 1 rfl trivial ?_
  refine pj_J.ite (fun hc7 => ?_) (fun hc7 => ?_)
  · skip
    refine pj_J.go (oX4_rate G) 1 rfl trivial ?_
    refine pj_iret dX4_rate_33 rfl ?_
    show _ = _ ∧ _ = _
    unfold fm_rate
    rw [if_pos hc7]
    exact ⟨rfl, rfl⟩
  · skip
    refine pj_J.go (oX4_rate G) 3 rfl trivial ?_
    refine pj_J.cal0 kX4_rate_15 (c_X4_in _ _ _) trivial pj_le0 pj_le0 pj_le0 ?_
    refine pj_J.go (oX4_rate G) 1 rfl trivial ?_
    refine pj_J.ite (fun hc18 => ?_) (fun hc18 => ?_)
    · skip
      refine pj_J.go (oX4_rate G) 1 rfl trivial ?_
      refine pj_iret dX4_rate_33 rfl ?_
      show _ = _ ∧ _ = _
      unfold fm_rate
      rw [if_neg hc7, if_pos hc18]
      exact ⟨rfl, rfl⟩
    · skip
      refine pj_J.go (oX4_rate G) 3 rfl trivial ?_
      refine pj_J.cal0 kX4_rate_26 (c_X4_in _ _ _) trivial pj_le0 pj_le0 pj_le0 ?_
      refine pj_J.go (oX4_rate G) 1 rfl trivial ?_
      refine pj_J.ite (fun hc29 => ?_) (fun hc29 => ?_)
      · skip
        refine pj_J.go (oX4_rate G) 1 rfl trivial ?_
        refine pj_iret dX4_rate_33 rfl ?_
        show _ = _ ∧ _ = _
        unfold fm_rate
        rw [if_neg hc7, if_neg hc18, if_pos hc29]
        exact ⟨rfl, rfl⟩
      · skip
        refine pj_J.go (oX4_rate G) 11 rfl ⟨by exact fm_in_vp (n := 7) hc7, by exact fm_in_vp (n := 7) hc7, trivial⟩ ?_
        refine pj_iret dX4_rate_49 rfl ?_
        show _ = _ ∧ _ = _
        unfold fm_rate
        rw [if_neg hc7, if_neg hc18, if_neg hc29]
        exact ⟨rfl, rfl⟩
def fm_line (m : sx_M) (u : Int32) : Int32 × sx_M := if fm_isLine u.toInt64 = 0 then (-1, m) else if sx_i m 3 = 12 then (-2, m) else
  (sx_i m 3 + 1, sx_si (sx_sI m 4 (upd (sx_I m 4) (sx_i m 3).toNatClampNeg u)) 3 (sx_i m 3 + 1))
theorem c_X4_line {G : pj_G} {d : Nat} {c : sx_C} {m : sx_M} {o : Nat → Int64} {D : pj_H} (u : Int32) (hl : vp_in (sx_i m 3) 13) : pj_Rt G mX4_line (d + 1) [.ref 59, .int u] (sx_mk c m o D) 0 0 (some (.int (fm_line m u).1)) (sx_mk c (fm_line m u).2 o D) := by
  refine pj_Cn.start ?_
  refine pj_J.go (oX4_line G) 2 rfl trivial ?_
  refine pj_J.cal0 kX4_line_2 (c_X4_isLine _) trivial pj_le0 pj_le0 pj_le0 ?_
  refine pj_J.go (oX4_line G) 1 rfl trivial ?_
  refine pj_J.ite (fun hc5 => ?_) (fun hc5 => ?_)
  · skip
    refine pj_J.go (oX4_line G) 1 rfl trivial ?_
    refine pj_iret dX4_line_9 rfl ?_
    show _ = _ ∧ _ = _
    unfold fm_line
    rw [if_pos hc5]
    exact ⟨rfl, rfl⟩
  · skip
    refine pj_J.go (oX4_line G) 4 rfl trivial ?_
    refine pj_J.ite (fun hc16 => ?_) (fun hc16 => ?_)
    · skip
      refine pj_J.go (oX4_line G) 1 rfl trivial ?_
      refine pj_iret dX4_line_21 rfl ?_
      show _ = _ ∧ _ = _
      unfold fm_line
      rw [if_neg hc5, if_pos hc16]
      exact ⟨rfl, rfl⟩
    · skip
      refine pj_J.go (oX4_line G) 14 rfl ⟨by exact vp_up (n := 12) hl hc16, trivial⟩ ?_
      refine pj_iret dX4_line_46 rfl ?_
      show _ = _ ∧ _ = _
      unfold fm_line
      rw [if_neg hc5, if_neg hc16]
      exact ⟨rfl, rfl⟩
def fm_bare (m : sx_M) : Int32 × sx_M := (sx_i m 3, sx_si m 3 0)
theorem c_X4_bare {G : pj_G} {d : Nat} {c : sx_C} {m : sx_M} {o : Nat → Int64} {D : pj_H}   : pj_Rt G mX4_bare (d) [.ref 59] (sx_mk c m o D) 0 0 (some (.int (fm_bare m ).1)) (sx_mk c (fm_bare m ).2 o D) := by
  refine pj_Cn.start ?_
  refine pj_J.go (oX4_bare G) 7 rfl trivial ?_
  refine pj_iret dX4_bare_11 rfl ?_
  show _ = _ ∧ _ = _
  unfold fm_bare
  skip
  exact ⟨rfl, rfl⟩
def fm_weight (m : sx_M) (set w : Int32) : Int32 × sx_M := if fm_in set 0 3 = 0 then (-1, m) else if fm_in w (-1) 1000 = 0 then (-1, m) else
  if w = -1 then (0, sx_sI m 5 (upd (sx_I m 5) set.toNatClampNeg 0)) else if sx_I m 5 set.toNatClampNeg = 8 then (-2, m) else
  (sx_I m 5 set.toNatClampNeg + 1, sx_sI (sx_sI m 6 (upd (sx_I m 6) (8 * set + sx_I m 5 set.toNatClampNeg).toNatClampNeg w)) 5 (upd (sx_I m 5) set.toNatClampNeg (sx_I m 5 set.toNatClampNeg + 1)))
theorem c_X4_weight {G : pj_G} {d : Nat} {c : sx_C} {m : sx_M} {o : Nat → Int64} {D : pj_H} (set : Int32) (w : Int32) (hw : ∀ k, k < 4 → vp_in (sx_I m 5 k) 9) : pj_Rt G mX4_weight (d + 1) [.ref 59, .int set, .int w] (sx_mk c m o D) 0 0 (some (.int (fm_weight m set w).1)) (sx_mk c (fm_weight m set w).2 o D) := by
  refine pj_Cn.start ?_
  refine pj_J.go (oX4_weight G) 3 rfl trivial ?_
  refine pj_J.cal0 kX4_weight_3 (c_X4_in _ _ _) trivial pj_le0 pj_le0 pj_le0 ?_
  refine pj_J.go (oX4_weight G) 1 rfl trivial ?_
  refine pj_J.ite (fun hc6 => ?_) (fun hc6 => ?_)
  · skip
    refine pj_J.go (oX4_weight G) 1 rfl trivial ?_
    refine pj_iret dX4_weight_21 rfl ?_
    show _ = _ ∧ _ = _
    unfold fm_weight
    rw [if_pos hc6]
    first
      | exact ⟨rfl, rfl⟩
      | exact ⟨by simp [upd], rfl⟩
  · skip
    refine pj_J.go (oX4_weight G) 3 rfl trivial ?_
    refine pj_J.cal0 kX4_weight_14 (c_X4_in _ _ _) trivial pj_le0 pj_le0 pj_le0 ?_
    refine pj_J.go (oX4_weight G) 1 rfl trivial ?_
    refine pj_J.ite (fun hc17 => ?_) (fun hc17 => ?_)
    · skip
      refine pj_J.go (oX4_weight G) 1 rfl trivial ?_
      refine pj_iret dX4_weight_21 rfl ?_
      show _ = _ ∧ _ = _
      unfold fm_weight
      rw [if_neg hc6, if_pos hc17]
      first
        | exact ⟨rfl, rfl⟩
        | exact ⟨by simp [upd], rfl⟩
    · skip
      refine pj_J.go (oX4_weight G) 3 rfl trivial ?_
      refine pj_J.ite (fun hc24 => ?_) (fun hc24 => ?_)
      · skip
        refine pj_J.go (oX4_weight G) 6 rfl ⟨by exact fm_in_vp (n := 3) hc6, trivial⟩ ?_
        refine pj_iret dX4_weight_35 rfl ?_
        show _ = _ ∧ _ = _
        unfold fm_weight
        rw [if_neg hc6, if_neg hc17, if_pos hc24]
        first
          | exact ⟨rfl, rfl⟩
          | exact ⟨by simp [upd], rfl⟩
      · skip
        refine pj_J.go (oX4_weight G) 6 rfl ⟨by exact fm_in_vp (n := 3) hc6, trivial⟩ ?_
        refine pj_J.ite (fun hc44 => ?_) (fun hc44 => ?_)
        · skip
          refine pj_J.go (oX4_weight G) 1 rfl trivial ?_
          refine pj_iret dX4_weight_49 rfl ?_
          show _ = _ ∧ _ = _
          unfold fm_weight
          rw [if_neg hc6, if_neg hc17, if_neg hc24, if_pos hc44]
          first
            | exact ⟨rfl, rfl⟩
            | exact ⟨by simp [upd], rfl⟩
        · skip
          refine pj_J.go (oX4_weight G) 24 rfl ⟨by exact fm_in_vp (n := 3) hc6, by exact vp_row (p := 4) (q := 8) (fm_in_vp (n := 3) hc6) (vp_up (n := 8) (hw _ (vp_lt (fm_in_vp (n := 3) hc6))) hc44) (by decide), by exact fm_in_vp (n := 3) hc6, by exact fm_in_vp (n := 3) hc6, by exact fm_in_vp (n := 3) hc6, trivial⟩ ?_
          refine pj_iret dX4_weight_83 rfl ?_
          show _ = _ ∧ _ = _
          unfold fm_weight
          rw [if_neg hc6, if_neg hc17, if_neg hc24, if_neg hc44]
          first
            | exact ⟨rfl, rfl⟩
            | exact ⟨by simp [upd], rfl⟩
def fm_program (m : sx_M) : Int32 × sx_M := if sx_i m 7 = 4 then (-2, m) else
  (sx_i m 7 + 1 - 1, sx_si (sx_sL (sx_sL (sx_sI m 8 (upd (sx_I m 8) (sx_i m 7).toNatClampNeg 0)) 24 (vp_updL (sx_L m 24) (sx_i m 7).toNatClampNeg 0)) 25 (vp_updL (sx_L m 25) (sx_i m 7).toNatClampNeg 1)) 7 (sx_i m 7 + 1))
theorem c_X4_program {G : pj_G} {d : Nat} {c : sx_C} {m : sx_M} {o : Nat → Int64} {D : pj_H}  (hp : vp_in (sx_i m 7) 5) : pj_Rt G mX4_program (d) [.ref 59] (sx_mk c m o D) 0 0 (some (.int (fm_program m ).1)) (sx_mk c (fm_program m ).2 o D) := by
  refine pj_Cn.start ?_
  refine pj_J.go (oX4_program G) 4 rfl trivial ?_
  refine pj_J.ite (fun hc5 => ?_) (fun hc5 => ?_)
  · skip
    refine pj_J.go (oX4_program G) 1 rfl trivial ?_
    refine pj_iret dX4_program_10 rfl ?_
    show _ = _ ∧ _ = _
    unfold fm_program
    rw [if_pos hc5]
    exact ⟨rfl, rfl⟩
  · skip
    refine pj_J.go (oX4_program G) 28 rfl ⟨by first | exact vp_up (n := 4) hp hc5 | exact vp_mono (vp_up (n := 4) hp hc5) (by decide), by first | exact vp_up (n := 4) hp hc5 | exact vp_mono (vp_up (n := 4) hp hc5) (by decide), by first | exact vp_up (n := 4) hp hc5 | exact vp_mono (vp_up (n := 4) hp hc5) (by decide), trivial⟩ ?_
    refine pj_iret dX4_program_57 rfl ?_
    show _ = _ ∧ _ = _
    unfold fm_program
    rw [if_neg hc5]
    exact ⟨rfl, rfl⟩
def fm_isProgram (m : sx_M) (p : Int32) : Int32 := fm_in p 0 (sx_i m 7 - 1)
theorem c_X4_isProgram {G : pj_G} {d : Nat} {c : sx_C} {m : sx_M} {o : Nat → Int64} {D : pj_H} (p : Int32)  : pj_Rt G mX4_isProgram (d + 1) [.ref 59, .int p] (sx_mk c m o D) 0 0 (some (.int (fm_isProgram m p))) (sx_mk c m o D) := by
  refine pj_Cn.start ?_
  refine pj_J.go (oX4_isProgram G) 6 rfl trivial ?_
  refine pj_J.cal0 kX4_isProgram_8 (c_X4_in _ _ _) trivial pj_le0 pj_le0 pj_le0 ?_
  refine pj_zret dX4_isProgram_11 rfl (by first | exact Or.inl rfl | exact Or.inr rfl | exact pj_b01 _) ?_
  show _ = _ ∧ _ = _
  unfold fm_isProgram
  skip
  exact ⟨rfl, rfl⟩
