/-! PennyJudgeModel: tapes (by tools/gen_m5.py) -/
set_option maxRecDepth 100000
def fm_tapeB (t : Int32) (k : Nat) (m : sx_M) : sx_M := sx_sL m 35 (vp_updL (sx_L m 35) (64 * t + nI k).toNatClampNeg 0)
def fm_tape (m : sx_M) (t q n : Int32) : Int32 × sx_M := if fm_in t 0 5 = 0 then (-1, m) else if fm_in q 1 4 = 0 then (-1, m) else if n ≤ 64 then (if 0 ≤ n then
  (n, it_up (fm_tapeB t) 64 0 (sx_sI (sx_sI m 33 (upd (sx_I m 33) t.toNatClampNeg q)) 34 (upd (sx_I m 34) t.toNatClampNeg n))) else fm_refuse m (-14)) else (-1, m)
theorem c_X4_tape {G : pj_G} {d : Nat} {c : sx_C} {m : sx_M} {o : Nat → Int64} {D : pj_H} (t : Int32) (q : Int32) (n : Int32)  : pj_Rt G mX4_tape (d + 2) [.ref 59, .int t, .int q, .int n] (sx_mk c m o D) 0 0 (some (.int (fm_tape m t q n).1)) (sx_mk c (fm_tape m t q n).2 o D) := by
  refine pj_Cn.start ?_
  refine pj_J.go (oX4_tape G) 1 rfl trivial ?_
  refine pj_J.cal0 kX4_tape_1 (c_X4_isTape _) trivial pj_le0 pj_le0 pj_le0 ?_
  refine pj_J.go (oX4_tape G) 1 rfl trivial ?_
  refine pj_J.ite (fun hc4 => ?_) (fun hc4 => ?_)
  · skip
    refine pj_J.go (oX4_tape G) 1 rfl trivial ?_
    refine pj_iret dX4_tape_23 rfl ?_
    show _ = _ ∧ _ = _
    unfold fm_tape
    rw [if_pos hc4]
    exact ⟨rfl, rfl⟩
  · skip
    refine pj_J.go (oX4_tape G) 3 rfl trivial ?_
    refine pj_J.cal0 kX4_tape_10 (c_X4_in _ _ _) trivial pj_le0 pj_le0 pj_le0 ?_
    refine pj_J.go (oX4_tape G) 1 rfl trivial ?_
    refine pj_J.ite (fun hc13 => ?_) (fun hc13 => ?_)
    · skip
      refine pj_J.go (oX4_tape G) 1 rfl trivial ?_
      refine pj_iret dX4_tape_23 rfl ?_
      show _ = _ ∧ _ = _
      unfold fm_tape
      rw [if_neg hc4, if_pos hc13]
      exact ⟨rfl, rfl⟩
    · skip
      refine pj_J.go (oX4_tape G) 3 rfl trivial ?_
      refine pj_J.ite (fun hc19 => ?_) (fun hc19 => ?_)
      · skip
        refine pj_J.go (oX4_tape G) 2 rfl trivial ?_
        refine pj_J.ite (fun hc25 => ?_) (fun hc25 => ?_)
        · skip
          refine pj_J.go (oX4_tape G) 12 rfl ⟨by exact fm_in_vp (n := 5) hc4, by exact fm_in_vp (n := 5) hc4, trivial⟩ ?_
          refine pj_for (fun k s => pj_J G mX4_tape (d + 2) 52 [some (.ref 59), some (.int t), some (.int q), some (.int n), some (.int (nI k))] [] (sx_mk c s o D) 0 0 _) (fm_tapeB t) (fun _ _ => True) 64 (fun k s hk hi => ⟨trivial, fun kk => ?_⟩) 64 0 (sx_sI (sx_sI m 33 (upd (sx_I m 33) t.toNatClampNeg q)) 34 (upd (sx_I m 34) t.toNatClampNeg n)) (by simp) trivial (fun hi => ?_)
          · rw [← nI_add1] at kk
            refine pj_J.go (oX4_tape G) 3 rfl trivial ?_
            refine pj_J.neg (nI_lt_lit hk (by decide)) ?_
            refine pj_J.go (oX4_tape G) 11 rfl ⟨by exact vp_row (p := 6) (q := 64) (fm_in_vp (n := 5) hc4) (vp_in_lit hk) (by decide), trivial⟩ ?_
            exact kk
          · skip
            refine pj_J.go (oX4_tape G) 3 rfl trivial ?_
            refine pj_J.pos (nI_ge_lit (Nat.le_refl 64) (by decide)) ?_
            refine pj_J.go (oX4_tape G) 1 rfl trivial ?_
            refine pj_iret dX4_tape_79 rfl ?_
            show _ = _ ∧ _ = _
            unfold fm_tape
            rw [if_neg hc4, if_neg hc13, if_pos hc19, if_pos hc25]
            exact ⟨rfl, rfl⟩
        · skip
          refine pj_J.go (oX4_tape G) 2 rfl trivial ?_
          refine pj_J.cal0 kX4_tape_31 (c_X4_refuse _) ⟨_, _, _, rfl, rfl⟩ pj_le0 pj_le0 pj_le0 ?_
          refine pj_iret dX4_tape_34 rfl ?_
          show _ = _ ∧ _ = _
          unfold fm_tape
          rw [if_neg hc4, if_neg hc13, if_pos hc19, if_neg hc25]
          exact ⟨rfl, rfl⟩
      · skip
        refine pj_J.go (oX4_tape G) 1 rfl trivial ?_
        refine pj_iret dX4_tape_23 rfl ?_
        show _ = _ ∧ _ = _
        unfold fm_tape
        rw [if_neg hc4, if_neg hc13, if_neg hc19]
        exact ⟨rfl, rfl⟩
def fm_lacks (m : sx_M) (t : Int32) : Int32 × sx_M := if fm_in t 0 5 = 0 then (-1, m) else if sx_I m 33 t.toNatClampNeg = 0 then fm_refuse m (-11) else if sx_I m 33 t.toNatClampNeg = 5 then (0, m) else fm_refuse m (-12)
theorem fm_lacks_0 {m : sx_M} {t : Int32} (h : (fm_lacks m t).1 = 0) : vp_in t 6 ∧ (fm_lacks m t).2 = m ∧ sx_I m 33 t.toNatClampNeg = 5 := by
  unfold fm_lacks at h ⊢
  split at h
  · exact absurd h (show ¬ (-1 : Int32) = 0 by decide)
  · rename_i h1
    rw [if_neg h1]
    split at h
    · exact absurd h (show ¬ (-11 : Int32) = 0 by decide)
    · rename_i h2
      rw [if_neg h2]
      split at h
      · rename_i h3
        rw [if_pos h3]
        exact ⟨fm_in_vp (n := 5) h1, rfl, h3⟩
      · exact absurd h (show ¬ (-12 : Int32) = 0 by decide)
theorem c_X4_lacks {G : pj_G} {d : Nat} {c : sx_C} {m : sx_M} {o : Nat → Int64} {D : pj_H} (t : Int32)  : pj_Rt G mX4_lacks (d + 2) [.ref 59, .int t] (sx_mk c m o D) 0 0 (some (.int (fm_lacks m t).1)) (sx_mk c (fm_lacks m t).2 o D) := by
  refine pj_Cn.start ?_
  refine pj_J.go (oX4_lacks G) 1 rfl trivial ?_
  refine pj_J.cal0 kX4_lacks_1 (c_X4_isTape _) trivial pj_le0 pj_le0 pj_le0 ?_
  refine pj_J.go (oX4_lacks G) 1 rfl trivial ?_
  refine pj_J.ite (fun hc4 => ?_) (fun hc4 => ?_)
  · skip
    refine pj_J.go (oX4_lacks G) 2 rfl trivial ?_
    refine pj_iret dX4_lacks_49 rfl ?_
    show _ = _ ∧ _ = _
    unfold fm_lacks
    rw [if_pos hc4]
    exact ⟨rfl, rfl⟩
  · skip
    refine pj_J.go (oX4_lacks G) 5 rfl ⟨by exact fm_in_vp (n := 5) hc4, trivial⟩ ?_
    refine pj_J.ite (fun hc17 => ?_) (fun hc17 => ?_)
    · skip
      refine pj_J.go (oX4_lacks G) 2 rfl trivial ?_
      refine pj_J.cal0 kX4_lacks_23 (c_X4_refuse _) ⟨_, _, _, rfl, rfl⟩ pj_le0 pj_le0 pj_le0 ?_
      refine pj_J.go (oX4_lacks G) 1 rfl trivial ?_
      refine pj_iret dX4_lacks_49 rfl ?_
      show _ = _ ∧ _ = _
      unfold fm_lacks
      rw [if_neg hc4, if_pos hc17]
      exact ⟨rfl, rfl⟩
    · skip
      refine pj_J.go (oX4_lacks G) 6 rfl ⟨by exact fm_in_vp (n := 5) hc4, trivial⟩ ?_
      refine pj_J.ite (fun hc36 => ?_) (fun hc36 => ?_)
      · skip
        refine pj_J.go (oX4_lacks G) 1 rfl trivial ?_
        refine pj_iret dX4_lacks_49 rfl ?_
        show _ = _ ∧ _ = _
        unfold fm_lacks
        rw [if_neg hc4, if_neg hc17, if_pos hc36]
        exact ⟨rfl, rfl⟩
      · skip
        refine pj_J.go (oX4_lacks G) 2 rfl trivial ?_
        refine pj_J.cal0 kX4_lacks_42 (c_X4_refuse _) ⟨_, _, _, rfl, rfl⟩ pj_le0 pj_le0 pj_le0 ?_
        refine pj_J.go (oX4_lacks G) 1 rfl trivial ?_
        refine pj_iret dX4_lacks_49 rfl ?_
        show _ = _ ∧ _ = _
        unfold fm_lacks
        rw [if_neg hc4, if_neg hc17, if_neg hc36]
        exact ⟨rfl, rfl⟩
def fm_toss (m : sx_M) (t : Int32) : Int32 × sx_M := if (fm_lacks m t).1 = 0 then (if sx_I m 37 t.toNatClampNeg = 0 then fm_refuse m (-15) else (sx_I m 37 t.toNatClampNeg, m)) else fm_lacks m t
theorem c_X4_toss {G : pj_G} {d : Nat} {c : sx_C} {m : sx_M} {o : Nat → Int64} {D : pj_H} (t : Int32)  : pj_Rt G mX4_toss (d + 3) [.ref 59, .int t] (sx_mk c m o D) 0 0 (some (.int (fm_toss m t).1)) (sx_mk c (fm_toss m t).2 o D) := by
  refine pj_Cn.start ?_
  refine pj_J.go (oX4_toss G) 2 rfl trivial ?_
  refine pj_J.cal0 kX4_toss_2 (c_X4_lacks _) ⟨_, _, _, rfl, rfl⟩ pj_le0 pj_le0 pj_le0 ?_
  refine pj_J.go (oX4_toss G) 3 rfl trivial ?_
  refine pj_J.ite (fun hc7 => ?_) (fun hc7 => ?_)
  · skip
    rw [(fm_lacks_0 hc7).2.1]
    refine pj_J.go (oX4_toss G) 5 rfl ⟨by exact (fm_lacks_0 hc7).1, trivial⟩ ?_
    refine pj_J.ite (fun hc18 => ?_) (fun hc18 => ?_)
    · skip
      refine pj_J.go (oX4_toss G) 2 rfl trivial ?_
      refine pj_J.cal0 kX4_toss_24 (c_X4_refuse _) ⟨_, _, _, rfl, rfl⟩ pj_le0 pj_le0 pj_le0 ?_
      refine pj_J.go (oX4_toss G) 1 rfl trivial ?_
      refine pj_iret dX4_toss_36 rfl ?_
      show _ = _ ∧ _ = _
      unfold fm_toss
      rw [if_pos hc7, if_pos hc18]
      exact ⟨rfl, rfl⟩
    · skip
      refine pj_J.go (oX4_toss G) 4 rfl ⟨by exact (fm_lacks_0 hc7).1, trivial⟩ ?_
      refine pj_iret dX4_toss_36 rfl ?_
      show _ = _ ∧ _ = _
      unfold fm_toss
      rw [if_pos hc7, if_neg hc18]
      exact ⟨rfl, rfl⟩
  · skip
    refine pj_J.go (oX4_toss G) 1 rfl trivial ?_
    refine pj_iret dX4_toss_11 rfl ?_
    show _ = _ ∧ _ = _
    unfold fm_toss
    rw [if_neg hc7]
    exact ⟨rfl, rfl⟩
def fm_clear (m : sx_M) (t : Int32) : Int32 × sx_M := if fm_in t 0 5 = 0 then (-1, m) else (sx_I m 33 t.toNatClampNeg, sx_sI m 33 (upd (sx_I m 33) t.toNatClampNeg 0))
theorem c_X4_clear {G : pj_G} {d : Nat} {c : sx_C} {m : sx_M} {o : Nat → Int64} {D : pj_H} (t : Int32)  : pj_Rt G mX4_clear (d + 2) [.ref 59, .int t] (sx_mk c m o D) 0 0 (some (.int (fm_clear m t).1)) (sx_mk c (fm_clear m t).2 o D) := by
  refine pj_Cn.start ?_
  refine pj_J.go (oX4_clear G) 1 rfl trivial ?_
  refine pj_J.cal0 kX4_clear_1 (c_X4_isTape _) trivial pj_le0 pj_le0 pj_le0 ?_
  refine pj_J.go (oX4_clear G) 1 rfl trivial ?_
  refine pj_J.ite (fun hc4 => ?_) (fun hc4 => ?_)
  · skip
    refine pj_J.go (oX4_clear G) 1 rfl trivial ?_
    refine pj_iret dX4_clear_8 rfl ?_
    show _ = _ ∧ _ = _
    unfold fm_clear
    rw [if_pos hc4]
    exact ⟨rfl, rfl⟩
  · skip
    refine pj_J.go (oX4_clear G) 11 rfl ⟨by exact fm_in_vp (n := 5) hc4, by exact fm_in_vp (n := 5) hc4, trivial⟩ ?_
    refine pj_iret dX4_clear_24 rfl ?_
    show _ = _ ∧ _ = _
    unfold fm_clear
    rw [if_neg hc4]
    exact ⟨rfl, rfl⟩
def fm_imA (t : Int32) (k : Nat) (m : sx_M) : sx_M := sx_sL m 38 (vp_updL (sx_L m 38) (8 * t + nI k).toNatClampNeg (sx_L m 23 (nI k).toNatClampNeg))
def fm_imB (t : Int32) (k : Nat) (m : sx_M) : sx_M := sx_sL (sx_sL m 39 (vp_updL (sx_L m 39) (4 * t + nI k).toNatClampNeg (sx_L m 24 (nI k).toNatClampNeg))) 40 (vp_updL (sx_L m 40) (4 * t + nI k).toNatClampNeg (sx_L m 25 (nI k).toNatClampNeg))
def fm_imS (m : sx_M) (t : Int32) : sx_M := sx_sI (sx_sI (sx_sI m 33 (upd (sx_I m 33) t.toNatClampNeg 5)) 36 (upd (sx_I m 36) t.toNatClampNeg (sx_i m 7))) 37 (upd (sx_I m 37) t.toNatClampNeg (sx_i m 13))
def fm_image (m : sx_M) (t : Int32) : Int32 × sx_M := if fm_in t 0 5 = 0 then (-1, m) else (sx_i m 7, it_up (fm_imB t) (sx_i m 7).toNatClampNeg 0 (it_up (fm_imA t) 8 0 (fm_imS m t)))
theorem c_X4_image {G : pj_G} {d : Nat} {c : sx_C} {m : sx_M} {o : Nat → Int64} {D : pj_H} (t : Int32) (hp : vp_in (sx_i m 7) 5) : pj_Rt G mX4_image (d + 2) [.ref 59, .int t] (sx_mk c m o D) 0 0 (some (.int (fm_image m t).1)) (sx_mk c (fm_image m t).2 o D) := by
  refine pj_Cn.start ?_
  refine pj_J.go (oX4_image G) 1 rfl trivial ?_
  refine pj_J.cal0 kX4_image_1 (c_X4_isTape _) trivial pj_le0 pj_le0 pj_le0 ?_
  refine pj_J.go (oX4_image G) 1 rfl trivial ?_
  refine pj_J.ite (fun hc4 => ?_) (fun hc4 => ?_)
  · skip
    refine pj_J.go (oX4_image G) 1 rfl trivial ?_
    refine pj_iret dX4_image_8 rfl ?_
    show _ = _ ∧ _ = _
    unfold fm_image
    rw [if_pos hc4]
    exact ⟨rfl, rfl⟩
  · skip
    obtain ⟨p, hp4, e⟩ := vp_in_of hp (by decide)
    have ep : (sx_i m 7).toNatClampNeg = p := by rw [e, nI_clamp (by omega)]
    refine pj_J.go (oX4_image G) 19 rfl ⟨by exact fm_in_vp (n := 5) hc4, by exact fm_in_vp (n := 5) hc4, by exact fm_in_vp (n := 5) hc4, trivial⟩ ?_
    refine pj_for (fun k s => pj_J G mX4_image (d + 2) 38 [some (.ref 59), some (.int t), some (.int (nI k))] [] (sx_mk c s o D) 0 0 _) (fm_imA t) (fun _ s => sx_i s 7 = nI p) 8 (fun k s hk hi => ⟨hi, fun kk => ?_⟩) 8 0 (fm_imS m t) (by simp) e (fun hi => ?_)
    · rw [← nI_add1] at kk
      refine pj_J.go (oX4_image G) 3 rfl trivial ?_
      refine pj_J.neg (nI_lt_lit hk (by decide)) ?_
      refine pj_J.go (oX4_image G) 14 rfl ⟨by exact vp_mono (vp_in_lit hk) (by decide), by exact vp_row (p := 6) (q := 8) (fm_in_vp (n := 5) hc4) (vp_in_lit hk) (by decide), trivial⟩ ?_
      exact kk
    · skip
      refine pj_J.go (oX4_image G) 3 rfl trivial ?_
      refine pj_J.pos (nI_ge_lit (Nat.le_refl 8) (by decide)) ?_
      refine pj_J.go (oX4_image G) 2 rfl trivial ?_
      refine pj_for (fun k s => pj_J G mX4_image (d + 2) 69 [some (.ref 59), some (.int t), some (.int (nI k))] [] (sx_mk c s o D) 0 0 _) (fm_imB t) (fun _ s => sx_i s 7 = nI p) p (fun k s hk hi => ⟨hi, fun kk => ?_⟩) p 0 _ (by simp) hi (fun hi => ?_)
      · rw [← nI_add1] at kk
        refine pj_J.go (oX4_image G) 4 rfl trivial ?_
        refine pj_J.neg (by rw [hi]; exact nI_lt_lit hk (by omega)) ?_
        refine pj_J.go (oX4_image G) 26 rfl ⟨by exact vp_mono (vp_in_lit (n := 4) (by omega)) (by decide), by exact vp_row (p := 6) (q := 4) (fm_in_vp (n := 5) hc4) (vp_in_lit (by omega)) (by decide), by exact vp_mono (vp_in_lit (n := 4) (by omega)) (by decide), by exact vp_row (p := 6) (q := 4) (fm_in_vp (n := 5) hc4) (vp_in_lit (by omega)) (by decide), trivial⟩ ?_
        exact kk
      · skip
        refine pj_J.go (oX4_image G) 4 rfl trivial ?_
        refine pj_J.pos (by rw [hi]; exact nI_ge_lit (Nat.le_refl p) (by omega)) ?_
        refine pj_J.go (oX4_image G) 2 rfl trivial ?_
        refine pj_iret dX4_image_119 rfl ?_
        show _ = _ ∧ _ = _
        unfold fm_image
        rw [if_neg hc4, ep]
        exact ⟨by rw [show sx_i (it_up (fm_imB t) p 0 (it_up (fm_imA t) 8 0 (fm_imS m t))) 7 = nI p from hi, e], rfl⟩
def fm_bkA (t : Int32) (k : Nat) (m : sx_M) : sx_M := sx_sL m 23 (vp_updL (sx_L m 23) (nI k).toNatClampNeg (sx_L m 38 (8 * t + nI k).toNatClampNeg))
def fm_bkB (t : Int32) (k : Nat) (m : sx_M) : sx_M := sx_sL (sx_sL m 24 (vp_updL (sx_L m 24) (nI k).toNatClampNeg (if sx_I m 36 t.toNatClampNeg ≤ nI k then 0 else sx_L m 39 (4 * t + nI k).toNatClampNeg))) 25 (vp_updL (sx_L m 25) (nI k).toNatClampNeg (if sx_I m 36 t.toNatClampNeg ≤ nI k then 1 else sx_L m 40 (4 * t + nI k).toNatClampNeg))
def fm_back (m : sx_M) (t : Int32) : Int32 × sx_M := if (fm_lacks m t).1 = 0 then (if sx_I m 36 t.toNatClampNeg ≤ sx_i m 7 then
  (sx_I m 37 t.toNatClampNeg, it_up (fm_bkB t) (sx_i m 7).toNatClampNeg 0 (it_up (fm_bkA t) 8 0 (sx_si m 13 (sx_I m 37 t.toNatClampNeg)))) else (-3, m)) else fm_lacks m t
theorem c_X4_back {G : pj_G} {d : Nat} {c : sx_C} {m : sx_M} {o : Nat → Int64} {D : pj_H} (t : Int32) (hp : vp_in (sx_i m 7) 5) : pj_Rt G mX4_back (d + 3) [.ref 59, .int t] (sx_mk c m o D) 0 0 (some (.int (fm_back m t).1)) (sx_mk c (fm_back m t).2 o D) := by
  refine pj_Cn.start ?_
  refine pj_J.go (oX4_back G) 2 rfl trivial ?_
  refine pj_J.cal0 kX4_back_2 (c_X4_lacks _) ⟨_, _, _, rfl, rfl⟩ pj_le0 pj_le0 pj_le0 ?_
  refine pj_J.go (oX4_back G) 3 rfl trivial ?_
  refine pj_J.ite (fun hc7 => ?_) (fun hc7 => ?_)
  · skip
    rw [(fm_lacks_0 hc7).2.1]
    obtain ⟨p, hp4, e⟩ := vp_in_of hp (by decide)
    have ep : (sx_i m 7).toNatClampNeg = p := by rw [e, nI_clamp (by omega)]
    refine pj_J.go (oX4_back G) 7 rfl ⟨by exact (fm_lacks_0 hc7).1, trivial⟩ ?_
    refine pj_J.ite (fun hc22 => ?_) (fun hc22 => ?_)
    · skip
      refine pj_J.go (oX4_back G) 8 rfl ⟨by exact (fm_lacks_0 hc7).1, trivial⟩ ?_
      refine pj_for (fun k s => pj_J G mX4_back (d + 3) 40 [some (.ref 59), some (.int t), some (.int (fm_lacks m t).1), some (.int (nI k))] [] (sx_mk c s o D) 0 0 _) (fm_bkA t) (fun _ s => sx_i s 7 = nI p ∧ sx_i s 13 = sx_I m 37 t.toNatClampNeg) 8 (fun k s hk hi => ⟨hi, fun kk => ?_⟩) 8 0 (sx_si m 13 (sx_I m 37 t.toNatClampNeg)) (by simp) ⟨e, rfl⟩ (fun hi => ?_)
      · rw [← nI_add1] at kk
        refine pj_J.go (oX4_back G) 3 rfl trivial ?_
        refine pj_J.neg (nI_lt_lit hk (by decide)) ?_
        refine pj_J.go (oX4_back G) 14 rfl ⟨by exact vp_row (p := 6) (q := 8) ((fm_lacks_0 hc7).1) (vp_in_lit hk) (by decide), by exact vp_mono (vp_in_lit hk) (by decide), trivial⟩ ?_
        exact kk
      · skip
        refine pj_J.go (oX4_back G) 3 rfl trivial ?_
        refine pj_J.pos (nI_ge_lit (Nat.le_refl 8) (by decide)) ?_
        refine pj_J.go (oX4_back G) 2 rfl trivial ?_
        refine pj_for (fun k s => pj_J G mX4_back (d + 3) 71 [some (.ref 59), some (.int t), some (.int (fm_lacks m t).1), some (.int (nI k))] [] (sx_mk c s o D) 0 0 _) (fm_bkB t) (fun _ s => sx_i s 7 = nI p ∧ sx_i s 13 = sx_I m 37 t.toNatClampNeg) p (fun k s hk hi => ⟨hi, fun kk => ?_⟩) p 0 _ (by simp) hi (fun hi => ?_)
        · rw [← nI_add1] at kk
          refine pj_J.go (oX4_back G) 4 rfl trivial ?_
          refine pj_J.neg (by rw [hi.1]; exact nI_lt_lit hk (by omega)) ?_
          refine pj_J.go (oX4_back G) 9 rfl ⟨by exact (fm_lacks_0 hc7).1, trivial⟩ ?_
          refine pj_J.ite (fun hc91 => ?_) (fun hc91 => ?_)
          · skip
            refine pj_J.go (oX4_back G) 11 rfl ⟨by exact vp_mono (vp_in_lit (n := 4) (by omega)) (by decide), by exact (fm_lacks_0 hc7).1, trivial⟩ ?_
            refine pj_J.ite (fun hc121 => ?_) (fun hc121 => ?_)
            · skip
              refine pj_J.go (oX4_back G) 4 rfl ⟨by exact vp_mono (vp_in_lit (n := 4) (by omega)) (by decide), trivial⟩ ?_
              first
                | exact absurd hc91 hc121
                | exact absurd hc121 hc91
                | (unfold fm_bkB at kk; rw [if_pos hc91, if_pos hc91] at kk; exact kk)
                | (unfold fm_bkB at kk; rw [if_neg hc91, if_neg hc91] at kk; exact kk)
            · skip
              refine pj_J.go (oX4_back G) 12 rfl ⟨by exact vp_row (p := 6) (q := 4) ((fm_lacks_0 hc7).1) (vp_in_lit (by omega)) (by decide), by exact vp_mono (vp_in_lit (n := 4) (by omega)) (by decide), trivial⟩ ?_
              first
                | exact absurd hc91 hc121
                | exact absurd hc121 hc91
                | (unfold fm_bkB at kk; rw [if_pos hc91, if_pos hc91] at kk; exact kk)
                | (unfold fm_bkB at kk; rw [if_neg hc91, if_neg hc91] at kk; exact kk)
          · skip
            refine pj_J.go (oX4_back G) 19 rfl ⟨by exact vp_row (p := 6) (q := 4) ((fm_lacks_0 hc7).1) (vp_in_lit (by omega)) (by decide), by exact vp_mono (vp_in_lit (n := 4) (by omega)) (by decide), by exact (fm_lacks_0 hc7).1, trivial⟩ ?_
            refine pj_J.ite (fun hc121 => ?_) (fun hc121 => ?_)
            · skip
              refine pj_J.go (oX4_back G) 4 rfl ⟨by exact vp_mono (vp_in_lit (n := 4) (by omega)) (by decide), trivial⟩ ?_
              first
                | exact absurd hc91 hc121
                | exact absurd hc121 hc91
                | (unfold fm_bkB at kk; rw [if_pos hc91, if_pos hc91] at kk; exact kk)
                | (unfold fm_bkB at kk; rw [if_neg hc91, if_neg hc91] at kk; exact kk)
            · skip
              refine pj_J.go (oX4_back G) 12 rfl ⟨by exact vp_row (p := 6) (q := 4) ((fm_lacks_0 hc7).1) (vp_in_lit (by omega)) (by decide), by exact vp_mono (vp_in_lit (n := 4) (by omega)) (by decide), trivial⟩ ?_
              first
                | exact absurd hc91 hc121
                | exact absurd hc121 hc91
                | (unfold fm_bkB at kk; rw [if_pos hc91, if_pos hc91] at kk; exact kk)
                | (unfold fm_bkB at kk; rw [if_neg hc91, if_neg hc91] at kk; exact kk)
        · skip
          refine pj_J.go (oX4_back G) 4 rfl trivial ?_
          refine pj_J.pos (by rw [hi.1]; exact nI_ge_lit (Nat.le_refl p) (by omega)) ?_
          refine pj_J.go (oX4_back G) 2 rfl trivial ?_
          refine pj_iret dX4_back_149 rfl ?_
          show _ = _ ∧ _ = _
          unfold fm_back
          rw [if_pos hc7, if_pos hc22, ep]
          exact ⟨by rw [show sx_i (it_up (fm_bkB t) p 0 (it_up (fm_bkA t) 8 0 (sx_si m 13 (sx_I m 37 t.toNatClampNeg)))) 13 = _ from hi.2], rfl⟩
    · skip
      refine pj_J.go (oX4_back G) 1 rfl trivial ?_
      refine pj_iret dX4_back_27 rfl ?_
      show _ = _ ∧ _ = _
      unfold fm_back
      rw [if_pos hc7, if_neg hc22]
      exact ⟨rfl, rfl⟩
  · skip
    refine pj_J.go (oX4_back G) 1 rfl trivial ?_
    refine pj_iret dX4_back_11 rfl ?_
    show _ = _ ∧ _ = _
    unfold fm_back
    rw [if_neg hc7]
    exact ⟨rfl, rfl⟩
def fm_put (m : sx_M) (t i : Int32) (v : Int64) : Int32 × sx_M := if fm_in t 0 5 = 0 then (-1, m) else if sx_I m 33 t.toNatClampNeg = 0 then fm_refuse m (-11) else if sx_I m 33 t.toNatClampNeg = 5 then fm_refuse m (-12) else if fm_in i 0 (sx_I m 34 t.toNatClampNeg - 1) = 0 then fm_refuse m (-13) else
  (1, sx_sL m 35 (vp_updL (sx_L m 35) (64 * t + i).toNatClampNeg (fm_narrowed (sx_I m 33 t.toNatClampNeg) v)))
theorem fm_in_pred {x y : Int32} {n : Nat} (hy : vp_in y (n + 1)) (h : ¬ fm_in x 0 (y - 1) = 0) (hn : n + 1 < 2 ^ 31 := by decide) : vp_in x n := by
  unfold fm_in at h
  rw [pj_b_eq0] at h
  have h := Classical.not_not.mp h
  obtain ⟨j, hj, e⟩ := vp_in_of hy hn
  rw [e] at h
  rw [vp_in_iff]
  have h0 : (0 : Int32).toInt = 0 := rfl
  match j, hj with
  | 0, _ => simp only [Int32.le_iff_toInt_le] at h; have : (nI 0 - 1).toInt = -1 := by decide
            omega
  | j + 1, hj =>
    rw [nI_pred] at h
    simp only [Int32.le_iff_toInt_le] at h
    rw [nI_toInt (by omega)] at h
    omega
theorem c_X4_put {G : pj_G} {d : Nat} {c : sx_C} {m : sx_M} {o : Nat → Int64} {D : pj_H} (t : Int32) (i : Int32) (v : Int64) (hz : ∀ k, k < 6 → vp_in (sx_I m 34 k) 65) : pj_Rt G mX4_put (d + 2) [.ref 59, .int t, .int i, .long v] (sx_mk c m o D) 0 0 (some (.int (fm_put m t i v).1)) (sx_mk c (fm_put m t i v).2 o D) := by
  refine pj_Cn.start ?_
  refine pj_J.go (oX4_put G) 1 rfl trivial ?_
  refine pj_J.cal0 kX4_put_1 (c_X4_isTape _) trivial pj_le0 pj_le0 pj_le0 ?_
  refine pj_J.go (oX4_put G) 1 rfl trivial ?_
  refine pj_J.ite (fun hc4 => ?_) (fun hc4 => ?_)
  · skip
    refine pj_J.go (oX4_put G) 1 rfl trivial ?_
    refine pj_iret dX4_put_8 rfl ?_
    show _ = _ ∧ _ = _
    unfold fm_put
    rw [if_pos hc4]
    exact ⟨rfl, rfl⟩
  · skip
    refine pj_J.go (oX4_put G) 5 rfl ⟨by exact fm_in_vp (n := 5) hc4, trivial⟩ ?_
    refine pj_J.ite (fun hc15 => ?_) (fun hc15 => ?_)
    · skip
      refine pj_J.go (oX4_put G) 2 rfl trivial ?_
      refine pj_J.cal0 kX4_put_21 (c_X4_refuse _) ⟨_, _, _, rfl, rfl⟩ pj_le0 pj_le0 pj_le0 ?_
      refine pj_iret dX4_put_24 rfl ?_
      show _ = _ ∧ _ = _
      unfold fm_put
      rw [if_neg hc4, if_pos hc15]
      exact ⟨rfl, rfl⟩
    · skip
      refine pj_J.go (oX4_put G) 6 rfl ⟨by exact fm_in_vp (n := 5) hc4, trivial⟩ ?_
      refine pj_J.ite (fun hc32 => ?_) (fun hc32 => ?_)
      · skip
        refine pj_J.go (oX4_put G) 2 rfl trivial ?_
        refine pj_J.cal0 kX4_put_38 (c_X4_refuse _) ⟨_, _, _, rfl, rfl⟩ pj_le0 pj_le0 pj_le0 ?_
        refine pj_iret dX4_put_41 rfl ?_
        show _ = _ ∧ _ = _
        unfold fm_put
        rw [if_neg hc4, if_neg hc15, if_pos hc32]
        exact ⟨rfl, rfl⟩
      · skip
        refine pj_J.go (oX4_put G) 8 rfl ⟨by exact fm_in_vp (n := 5) hc4, trivial⟩ ?_
        refine pj_J.cal0 kX4_put_52 (c_X4_in _ _ _) trivial pj_le0 pj_le0 pj_le0 ?_
        refine pj_J.go (oX4_put G) 1 rfl trivial ?_
        refine pj_J.ite (fun hc55 => ?_) (fun hc55 => ?_)
        · skip
          refine pj_J.go (oX4_put G) 2 rfl trivial ?_
          refine pj_J.cal0 kX4_put_61 (c_X4_refuse _) ⟨_, _, _, rfl, rfl⟩ pj_le0 pj_le0 pj_le0 ?_
          refine pj_iret dX4_put_64 rfl ?_
          show _ = _ ∧ _ = _
          unfold fm_put
          rw [if_neg hc4, if_neg hc15, if_neg hc32, if_pos hc55]
          exact ⟨rfl, rfl⟩
        · skip
          refine pj_J.go (oX4_put G) 12 rfl ⟨by exact fm_in_vp (n := 5) hc4, trivial⟩ ?_
          refine pj_J.cal0 kX4_put_82 (c_X4_narrowed _ _) trivial pj_le0 pj_le0 pj_le0 ?_
          refine pj_J.go (oX4_put G) 2 rfl ⟨by exact vp_row (p := 6) (q := 64) (fm_in_vp (n := 5) hc4) (fm_in_pred (n := 64) (hz _ (vp_lt (fm_in_vp (n := 5) hc4))) hc55) (by decide), trivial⟩ ?_
          refine pj_iret dX4_put_87 rfl ?_
          show _ = _ ∧ _ = _
          unfold fm_put
          rw [if_neg hc4, if_neg hc15, if_neg hc32, if_neg hc55]
          exact ⟨rfl, rfl⟩
def fm_atS (m : sx_M) (t i : Int32) : Int32 := if fm_in t 0 5 = 0 then 1 else if sx_I m 33 t.toNatClampNeg = 0 then 2 else if sx_I m 33 t.toNatClampNeg = 5 then 2 else if fm_in i 0 (sx_I m 34 t.toNatClampNeg - 1) = 0 then 2 else 0
def fm_at (m : sx_M) (t i : Int32) : Int64 × sx_M := (if fm_atS m t i = 0 then sx_L m 35 (64 * t + i).toNatClampNeg else 0, sx_si m 0 (fm_atS m t i))

theorem c_X4_at {G : pj_G} {d : Nat} {c : sx_C} {m : sx_M} {o : Nat → Int64} {D : pj_H} (hz : ∀ k, k < 6 → vp_in (sx_I m 34 k) 65) (t i : Int32) : pj_Rt G mX4_at (d + 2) [.ref 59, .int t, .int i] (sx_mk c m o D) 0 0 (some (.long (fm_at m t i).1)) (sx_mk c (fm_at m t i).2 o D) := by
  refine pj_Cn.start ?_
  refine pj_J.go (oX4_at G) 2 rfl trivial ?_
  refine pj_J.cal0 kX4_at_2 (c_X4_isTape _) trivial pj_le0 pj_le0 pj_le0 ?_
  refine pj_J.go (oX4_at G) 1 rfl trivial ?_
  refine pj_J.ite (fun hc5 => ?_) (fun hc5 => ?_)
  · skip
    refine pj_J.go (oX4_at G) 6 rfl trivial ?_
    refine pj_J.ite (fun hc59 => ?_) (fun hc59 => ?_)
    · skip
      refine pj_J.go (oX4_at G) 9 rfl ⟨by first | exact vp_row (p := 6) (q := 64) (fm_in_vp (n := 5) hc5) (fm_in_pred (n := 64) (hz _ (vp_lt (fm_in_vp (n := 5) hc5))) hc44) (by decide) | exact absurd hc59 (show ¬ (1 : Int32) = 0 by decide) | exact absurd hc59 (show ¬ (2 : Int32) = 0 by decide), trivial⟩ ?_
      refine pj_lret dX4_at_77 rfl ?_
      show _ = _ ∧ _ = _
      unfold fm_at fm_atS
      first
        | (exfalso; exact absurd hc59 (show ¬ (1 : Int32) = 0 by decide))
        | (exfalso; exact absurd hc59 (show ¬ (2 : Int32) = 0 by decide))
        | (exfalso; exact hc59 rfl)
        | (rw [if_pos hc5]; exact ⟨rfl, rfl⟩)
    · skip
      refine pj_J.go (oX4_at G) 1 rfl trivial ?_
      refine pj_lret dX4_at_77 rfl ?_
      show _ = _ ∧ _ = _
      unfold fm_at fm_atS
      first
        | (exfalso; exact absurd hc59 (show ¬ (1 : Int32) = 0 by decide))
        | (exfalso; exact absurd hc59 (show ¬ (2 : Int32) = 0 by decide))
        | (exfalso; exact hc59 rfl)
        | (rw [if_pos hc5]; exact ⟨rfl, rfl⟩)
  · skip
    refine pj_J.go (oX4_at G) 5 rfl ⟨by exact fm_in_vp (n := 5) hc5, trivial⟩ ?_
    refine pj_J.ite (fun hc18 => ?_) (fun hc18 => ?_)
    · skip
      refine pj_J.go (oX4_at G) 6 rfl trivial ?_
      refine pj_J.ite (fun hc59 => ?_) (fun hc59 => ?_)
      · skip
        refine pj_J.go (oX4_at G) 9 rfl ⟨by first | exact vp_row (p := 6) (q := 64) (fm_in_vp (n := 5) hc5) (fm_in_pred (n := 64) (hz _ (vp_lt (fm_in_vp (n := 5) hc5))) hc44) (by decide) | exact absurd hc59 (show ¬ (1 : Int32) = 0 by decide) | exact absurd hc59 (show ¬ (2 : Int32) = 0 by decide), trivial⟩ ?_
        refine pj_lret dX4_at_77 rfl ?_
        show _ = _ ∧ _ = _
        unfold fm_at fm_atS
        first
          | (exfalso; exact absurd hc59 (show ¬ (1 : Int32) = 0 by decide))
          | (exfalso; exact absurd hc59 (show ¬ (2 : Int32) = 0 by decide))
          | (exfalso; exact hc59 rfl)
          | (rw [if_neg hc5, if_pos hc18]; exact ⟨rfl, rfl⟩)
      · skip
        refine pj_J.go (oX4_at G) 1 rfl trivial ?_
        refine pj_lret dX4_at_77 rfl ?_
        show _ = _ ∧ _ = _
        unfold fm_at fm_atS
        first
          | (exfalso; exact absurd hc59 (show ¬ (1 : Int32) = 0 by decide))
          | (exfalso; exact absurd hc59 (show ¬ (2 : Int32) = 0 by decide))
          | (exfalso; exact hc59 rfl)
          | (rw [if_neg hc5, if_pos hc18]; exact ⟨rfl, rfl⟩)
    · skip
      refine pj_J.go (oX4_at G) 6 rfl ⟨by exact fm_in_vp (n := 5) hc5, trivial⟩ ?_
      refine pj_J.ite (fun hc28 => ?_) (fun hc28 => ?_)
      · skip
        refine pj_J.go (oX4_at G) 6 rfl trivial ?_
        refine pj_J.ite (fun hc59 => ?_) (fun hc59 => ?_)
        · skip
          refine pj_J.go (oX4_at G) 9 rfl ⟨by first | exact vp_row (p := 6) (q := 64) (fm_in_vp (n := 5) hc5) (fm_in_pred (n := 64) (hz _ (vp_lt (fm_in_vp (n := 5) hc5))) hc44) (by decide) | exact absurd hc59 (show ¬ (1 : Int32) = 0 by decide) | exact absurd hc59 (show ¬ (2 : Int32) = 0 by decide), trivial⟩ ?_
          refine pj_lret dX4_at_77 rfl ?_
          show _ = _ ∧ _ = _
          unfold fm_at fm_atS
          first
            | (exfalso; exact absurd hc59 (show ¬ (1 : Int32) = 0 by decide))
            | (exfalso; exact absurd hc59 (show ¬ (2 : Int32) = 0 by decide))
            | (exfalso; exact hc59 rfl)
            | (rw [if_neg hc5, if_neg hc18, if_pos hc28]; exact ⟨rfl, rfl⟩)
        · skip
          refine pj_J.go (oX4_at G) 1 rfl trivial ?_
          refine pj_lret dX4_at_77 rfl ?_
          show _ = _ ∧ _ = _
          unfold fm_at fm_atS
          first
            | (exfalso; exact absurd hc59 (show ¬ (1 : Int32) = 0 by decide))
            | (exfalso; exact absurd hc59 (show ¬ (2 : Int32) = 0 by decide))
            | (exfalso; exact hc59 rfl)
            | (rw [if_neg hc5, if_neg hc18, if_pos hc28]; exact ⟨rfl, rfl⟩)
      · skip
        refine pj_J.go (oX4_at G) 8 rfl ⟨by exact fm_in_vp (n := 5) hc5, trivial⟩ ?_
        refine pj_J.cal0 kX4_at_41 (c_X4_in _ _ _) trivial pj_le0 pj_le0 pj_le0 ?_
        refine pj_J.go (oX4_at G) 1 rfl trivial ?_
        refine pj_J.ite (fun hc44 => ?_) (fun hc44 => ?_)
        · skip
          refine pj_J.go (oX4_at G) 6 rfl trivial ?_
          refine pj_J.ite (fun hc59 => ?_) (fun hc59 => ?_)
          · skip
            refine pj_J.go (oX4_at G) 9 rfl ⟨by first | exact vp_row (p := 6) (q := 64) (fm_in_vp (n := 5) hc5) (fm_in_pred (n := 64) (hz _ (vp_lt (fm_in_vp (n := 5) hc5))) hc44) (by decide) | exact absurd hc59 (show ¬ (1 : Int32) = 0 by decide) | exact absurd hc59 (show ¬ (2 : Int32) = 0 by decide), trivial⟩ ?_
            refine pj_lret dX4_at_77 rfl ?_
            show _ = _ ∧ _ = _
            unfold fm_at fm_atS
            first
              | (exfalso; exact absurd hc59 (show ¬ (1 : Int32) = 0 by decide))
              | (exfalso; exact absurd hc59 (show ¬ (2 : Int32) = 0 by decide))
              | (exfalso; exact hc59 rfl)
              | (rw [if_neg hc5, if_neg hc18, if_neg hc28, if_pos hc44]; exact ⟨rfl, rfl⟩)
          · skip
            refine pj_J.go (oX4_at G) 1 rfl trivial ?_
            refine pj_lret dX4_at_77 rfl ?_
            show _ = _ ∧ _ = _
            unfold fm_at fm_atS
            first
              | (exfalso; exact absurd hc59 (show ¬ (1 : Int32) = 0 by decide))
              | (exfalso; exact absurd hc59 (show ¬ (2 : Int32) = 0 by decide))
              | (exfalso; exact hc59 rfl)
              | (rw [if_neg hc5, if_neg hc18, if_neg hc28, if_pos hc44]; exact ⟨rfl, rfl⟩)
        · skip
          refine pj_J.go (oX4_at G) 5 rfl trivial ?_
          refine pj_J.ite (fun hc59 => ?_) (fun hc59 => ?_)
          · skip
            refine pj_J.go (oX4_at G) 9 rfl ⟨by first | exact vp_row (p := 6) (q := 64) (fm_in_vp (n := 5) hc5) (fm_in_pred (n := 64) (hz _ (vp_lt (fm_in_vp (n := 5) hc5))) hc44) (by decide) | exact absurd hc59 (show ¬ (1 : Int32) = 0 by decide) | exact absurd hc59 (show ¬ (2 : Int32) = 0 by decide), trivial⟩ ?_
            refine pj_lret dX4_at_77 rfl ?_
            show _ = _ ∧ _ = _
            unfold fm_at fm_atS
            first
              | (exfalso; exact absurd hc59 (show ¬ (1 : Int32) = 0 by decide))
              | (exfalso; exact absurd hc59 (show ¬ (2 : Int32) = 0 by decide))
              | (exfalso; exact hc59 rfl)
              | (rw [if_neg hc5, if_neg hc18, if_neg hc28, if_neg hc44]; exact ⟨rfl, rfl⟩)
          · skip
            refine pj_J.go (oX4_at G) 1 rfl trivial ?_
            refine pj_lret dX4_at_77 rfl ?_
            show _ = _ ∧ _ = _
            unfold fm_at fm_atS
            first
              | (exfalso; exact absurd hc59 (show ¬ (1 : Int32) = 0 by decide))
              | (exfalso; exact absurd hc59 (show ¬ (2 : Int32) = 0 by decide))
              | (exfalso; exact hc59 rfl)
              | (rw [if_neg hc5, if_neg hc18, if_neg hc28, if_neg hc44]; exact ⟨rfl, rfl⟩)
def fm_count (m : sx_M) (w : Int32) : Int32 := if w = 0 then sx_i m 3 else if w = 1 then sx_i m 7 else if w = 2 then sx_i m 13 else if w = 3 then sx_i m 15 else if fm_isProgram m (w - 10) = 0 then (if fm_in w 20 23 = 0 then -1 else sx_I m 5 (w - 20).toNatClampNeg) else sx_I m 8 (w - 10).toNatClampNeg
theorem fm_in_20 {w : Int32} (h : ¬ fm_in w 20 23 = 0) : vp_in (w - 20) 4 := by
  unfold fm_in at h
  rw [pj_b_eq0] at h
  have h := Classical.not_not.mp h
  simp only [Int32.le_iff_toInt_le] at h
  have h1 : (20 : Int32).toInt = 20 := rfl
  have h2 : (23 : Int32).toInt = 23 := rfl
  rw [vp_in_iff, Int32.toInt_sub, h1]
  rw [Int.bmod_eq_of_le (by omega) (by omega)]
  omega
theorem c_X4_count {G : pj_G} {d : Nat} {c : sx_C} {m : sx_M} {o : Nat → Int64} {D : pj_H} (w : Int32) (hp : vp_in (sx_i m 7) 5) : pj_Rt G mX4_count (d + 2) [.ref 59, .int w] (sx_mk c m o D) 0 0 (some (.int (fm_count m w))) (sx_mk c m o D) := by
  refine pj_Cn.start ?_
  refine pj_J.go (oX4_count G) 2 rfl trivial ?_
  refine pj_J.swc (fun hs0 => ?_) (fun hs0 => ?_)
  · skip
    refine pj_J.go (oX4_count G) 2 rfl trivial ?_
    refine pj_iret dX4_count_36 rfl ?_
    show _ = _ ∧ _ = _
    unfold fm_count
    rw [if_pos hs0]
    exact ⟨rfl, rfl⟩
  refine pj_J.swc (fun hs1 => ?_) (fun hs1 => ?_)
  · skip
    refine pj_J.go (oX4_count G) 2 rfl trivial ?_
    refine pj_iret dX4_count_41 rfl ?_
    show _ = _ ∧ _ = _
    unfold fm_count
    rw [if_neg hs0, if_pos hs1]
    exact ⟨rfl, rfl⟩
  refine pj_J.swc (fun hs2 => ?_) (fun hs2 => ?_)
  · skip
    refine pj_J.go (oX4_count G) 2 rfl trivial ?_
    refine pj_iret dX4_count_46 rfl ?_
    show _ = _ ∧ _ = _
    unfold fm_count
    rw [if_neg hs0, if_neg hs1, if_pos hs2]
    exact ⟨rfl, rfl⟩
  refine pj_J.swc (fun hs3 => ?_) (fun hs3 => ?_)
  · skip
    refine pj_J.go (oX4_count G) 2 rfl trivial ?_
    refine pj_iret dX4_count_51 rfl ?_
    show _ = _ ∧ _ = _
    unfold fm_count
    rw [if_neg hs0, if_neg hs1, if_neg hs2, if_pos hs3]
    exact ⟨rfl, rfl⟩
  refine pj_J.swn ?_
  refine pj_J.go (oX4_count G) 4 rfl trivial ?_
  refine pj_J.cal0 kX4_count_57 (c_X4_isProgram _) ⟨_, _, _, rfl, rfl⟩ pj_le0 pj_le0 pj_le0 ?_
  refine pj_J.go (oX4_count G) 1 rfl trivial ?_
  refine pj_J.ite (fun hc60 => ?_) (fun hc60 => ?_)
  · skip
    refine pj_J.go (oX4_count G) 3 rfl trivial ?_
    refine pj_J.cal0 kX4_count_80 (c_X4_in _ _ _) trivial pj_le0 pj_le0 pj_le0 ?_
    refine pj_J.go (oX4_count G) 1 rfl trivial ?_
    refine pj_J.ite (fun hc83 => ?_) (fun hc83 => ?_)
    · skip
      refine pj_J.go (oX4_count G) 1 rfl trivial ?_
      refine pj_iret dX4_count_99 rfl ?_
      show _ = _ ∧ _ = _
      unfold fm_count
      rw [if_neg hs0, if_neg hs1, if_neg hs2, if_neg hs3, if_pos hc60, if_pos hc83]
      exact ⟨rfl, rfl⟩
    · skip
      refine pj_J.go (oX4_count G) 7 rfl ⟨by exact fm_in_20 hc83, trivial⟩ ?_
      refine pj_iret dX4_count_99 rfl ?_
      show _ = _ ∧ _ = _
      unfold fm_count
      rw [if_neg hs0, if_neg hs1, if_neg hs2, if_neg hs3, if_pos hc60, if_neg hc83]
      exact ⟨rfl, rfl⟩
  · skip
    refine pj_J.go (oX4_count G) 7 rfl ⟨by exact fm_isProgram_vp hp hc60, trivial⟩ ?_
    refine pj_iret dX4_count_99 rfl ?_
    show _ = _ ∧ _ = _
    unfold fm_count
    rw [if_neg hs0, if_neg hs1, if_neg hs2, if_neg hs3, if_neg hc60]
    exact ⟨rfl, rfl⟩
