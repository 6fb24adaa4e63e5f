/-! PennyJudgeModel: breaks leastOf least mend (by tools/gen_n3.py) -/
set_option maxRecDepth 100000
def fm_tA (m : sx_M) (p u : Int32) : Int32 × sx_M := fm_tries (fm_taS u m) p
theorem fm_tA01 (m : sx_M) (p u : Int32) : (fm_tA m p u).1 = 0 ∨ (fm_tA m p u).1 = 1 := by
  unfold fm_tA fm_tries
  dsimp only
  split
  · exact Or.inl rfl
  · exact Or.inr rfl
def fm_bsB (m : sx_M) (k : Nat) (s : Int64) : Int64 := (s + (sx_L m 23 ((8 : Int32) + (nI k)).toNatClampNeg))
theorem ly_fm_bsB {G : pj_G} {d : Nat} {c : sx_C} {m : sx_M} {o : Nat → Int64} {D : pj_H} {Q : pj_O → pj_H → Prop} (p law oth u r : Int32) (k : Nat) (s : Int64) (hk : k < 8) (kk : pj_J G mX4_breaks (d) 54 [some (.ref 59), some (.int p), some (.int law), some (.int oth), some (.int u), some (.int r), some (.long (fm_bsB m k s)), none, some (.int (nI k + 1))] [] (sx_mk c m o D) 0 0 Q) : pj_J G mX4_breaks (d) 54 [some (.ref 59), some (.int p), some (.int law), some (.int oth), some (.int u), some (.int r), some (.long s), none, some (.int (nI k))] [] (sx_mk c m o D) 0 0 Q := by
  unfold fm_bsB at kk
  refine pj_J.go (oX4_breaks G) 3 rfl trivial ?_
  refine pj_J.neg (nI_lt_lit hk (by decide)) ?_
  refine pj_J.go (oX4_breaks G) 11 rfl ⟨by exact vp_in_8k hk, trivial⟩ ?_
  exact pj_J.drp kk ⟨rfl, rfl, rfl, rfl, rfl, rfl, rfl, rfl, trivial⟩
theorem lz_fm_bsB {G : pj_G} {d : Nat} {c : sx_C} {m : sx_M} {o : Nat → Int64} {D : pj_H} {Q : pj_O → pj_H → Prop} (p law oth u r : Int32) (s : Int64) (q : Q (.inl (some (.int (if r = 0 then (if s = 0 then 0 else 1) else 0)))) (sx_mk c m o D)) : pj_J G mX4_breaks (d) 54 [some (.ref 59), some (.int p), some (.int law), some (.int oth), some (.int u), some (.int r), some (.long s), none, some (.int (nI 8))] [] (sx_mk c m o D) 0 0 Q := by
  refine pj_J.go (oX4_breaks G) 3 rfl trivial ?_
  refine pj_J.pos (nI_ge_lit (Nat.le_refl _) (by decide)) ?_
  refine pj_J.go (oX4_breaks G) 2 rfl trivial ?_
  refine pj_J.ite (fun hc84 => ?_) (fun hc84 => ?_)
  · skip
    refine pj_J.go (oX4_breaks G) 4 rfl trivial ?_
    refine pj_J.ite (fun hc91 => ?_) (fun hc91 => ?_)
    · simp only [pj_lc_eq] at hc91
      refine pj_J.go (oX4_breaks G) 1 rfl trivial ?_
      rw [if_pos (show r = (0 : Int32) from hc84), if_pos (show s = (0 : Int64) from hc91)] at q
      exact pj_zret dX4_breaks_99 rfl (by first | exact Or.inl rfl | exact Or.inr rfl | exact pj_b01 _ | assumption) q
    · simp only [pj_lc_eq] at hc91
      refine pj_J.go (oX4_breaks G) 2 rfl trivial ?_
      rw [if_pos (show r = (0 : Int32) from hc84), if_neg (show ¬ (s = (0 : Int64)) from hc91)] at q
      exact pj_zret dX4_breaks_99 rfl (by first | exact Or.inl rfl | exact Or.inr rfl | exact pj_b01 _ | assumption) q
  · skip
    refine pj_J.go (oX4_breaks G) 1 rfl trivial ?_
    rw [if_neg (show ¬ (r = (0 : Int32)) from hc84)] at q
    exact pj_zret dX4_breaks_99 rfl (by first | exact Or.inl rfl | exact Or.inr rfl | exact pj_b01 _ | assumption) q
def fm_bsum (m : sx_M) : Int64 := it_up (fm_bsB m) 8 0 0
theorem it_up_inv {σ : Type} (body : Nat → σ → σ) (I : σ → Prop) (h : ∀ k s, I s → I (body k s)) : ∀ c k s, I s → I (it_up body c k s) := by
  intro c
  induction c with
  | zero => intro k s hs; exact hs
  | succ c ih => intro k s hs; exact ih (k + 1) _ (h k s hs)
theorem fm_differs01 (m : sx_M) (v : Int64) : fm_differs m v = 0 ∨ fm_differs m v = 1 := it_up_inv (fm_dfB v m) (fun f => f = 0 ∨ f = 1) (fun k s _ => fm_dfB01 v m k s) 8 0 0 (Or.inl rfl)
def fm_breaks (F : sx_M → Int32 → Int32 → sx_M) (m : sx_M) (p law oth u : Int32) : Int32 × sx_M := if law = (0 : Int32) then (if (fm_tA m p u).1 = 0 then (if fm_bsum (fm_tA m p u).2 = 0 then 0 else 1) else 0, (fm_tA m p u).2) else (if law = (1 : Int32) then (if (fm_tA (fm_notes ((fm_tA m p u).2)) p (-u)).1 = (fm_tA m p u).1 then (if (fm_tA m p u).1 = (0 : Int32) then (if (fm_differs ((fm_tA (fm_notes ((fm_tA m p u).2)) p (-u)).2) (-1 : Int64)) = (0 : Int32) then ((0 : Int32), ((fm_tA (fm_notes ((fm_tA m p u).2)) p (-u)).2)) else ((1 : Int32), ((fm_tA (fm_notes ((fm_tA m p u).2)) p (-u)).2))) else ((0 : Int32), ((fm_tA (fm_notes ((fm_tA m p u).2)) p (-u)).2))) else ((1 : Int32), ((fm_tA (fm_notes ((fm_tA m p u).2)) p (-u)).2))) else (if law = (2 : Int32) then (if (fm_tA (fm_notes ((fm_tA m p u).2)) oth u).1 = (fm_tA m p u).1 then (if (fm_tA m p u).1 = (0 : Int32) then (if (fm_differs ((fm_tA (fm_notes ((fm_tA m p u).2)) oth u).2) (1 : Int64)) = (0 : Int32) then ((0 : Int32), ((fm_tA (fm_notes ((fm_tA m p u).2)) oth u).2)) else ((1 : Int32), ((fm_tA (fm_notes ((fm_tA m p u).2)) oth u).2))) else ((0 : Int32), ((fm_tA (fm_notes ((fm_tA m p u).2)) oth u).2))) else ((1 : Int32), ((fm_tA (fm_notes ((fm_tA m p u).2)) oth u).2))) else (if law = (3 : Int32) then (if (fm_tA m p u).1 = (0 : Int32) then (if (fm_isUnfair ((fm_tA m p u).2)) = (0 : Int32) then ((0 : Int32), ((fm_tA m p u).2)) else ((1 : Int32), ((fm_tA m p u).2))) else ((0 : Int32), ((fm_tA m p u).2))) else (if law = (4 : Int32) then ((fm_tA m p u).1, ((fm_tA m p u).2)) else (if law = (5 : Int32) then (if (fm_tA m p u).1 = (0 : Int32) then (if (sx_i ((fm_tA m p u).2) 31) ≤ (0 : Int32) then ((0 : Int32), ((fm_tA m p u).2)) else ((1 : Int32), ((fm_tA m p u).2))) else ((0 : Int32), ((fm_tA m p u).2))) else (if (fm_tA m p u).1 = (0 : Int32) then ((fm_differs (F (fm_notes ((fm_tA m p u).2)) p u) (1 : Int64)), (F (fm_notes ((fm_tA m p u).2)) p u)) else ((0 : Int32), ((fm_tA m p u).2))))))))
theorem c_X4_breaks {G : pj_G} {d : Nat} {c : sx_C} {m : sx_M} {o : Nat → Int64} {D : pj_H} (p : Int32) (law : Int32) (oth : Int32) (u : Int32) (F : sx_M → Int32 → Int32 → sx_M) (ca : pj_Rt G mX4_triesAmount (d + 8) [.ref 59, .int p, .int u] (sx_mk c m o D) 0 0 (some (.int (fm_tA m p u).1)) (sx_mk c (fm_tA m p u).2 o D))
  (cb1 : law = 1 → pj_Rt G mX4_triesAmount (d + 8) [.ref 59, .int p, .int (-u)] (sx_mk c (fm_notes (fm_tA m p u).2) o D) 0 0 (some (.int (fm_tA (fm_notes (fm_tA m p u).2) p (-u)).1)) (sx_mk c (fm_tA (fm_notes (fm_tA m p u).2) p (-u)).2 o D))
  (cb2 : law = 2 → pj_Rt G mX4_triesAmount (d + 8) [.ref 59, .int oth, .int u] (sx_mk c (fm_notes (fm_tA m p u).2) o D) 0 0 (some (.int (fm_tA (fm_notes (fm_tA m p u).2) oth u).1)) (sx_mk c (fm_tA (fm_notes (fm_tA m p u).2) oth u).2 o D))
  (cu : law = 3 → (fm_tA m p u).1 = 0 → pj_Rt G mX4_isUnfair (d + 8) [.ref 59] (sx_mk c (fm_tA m p u).2 o D) 0 0 (some (.int (fm_isUnfair (fm_tA m p u).2))) (sx_mk c (fm_tA m p u).2 o D))
  (cf : ¬ law = 5 → (fm_tA m p u).1 = 0 → pj_Rt G mX4_floats (d + 8) [.ref 59, .int p, .int u] (sx_mk c (fm_notes (fm_tA m p u).2) o D) 0 0 none (sx_mk c (F (fm_notes (fm_tA m p u).2) p u) o D)) : pj_Rt G mX4_breaks (d + 9) [.ref 59, .int p, .int law, .int oth, .int u] (sx_mk c m o D) 0 0 (some (.int ((fm_breaks F m p law oth u).1))) (sx_mk c (fm_breaks F m p law oth u).2 o D) := by
  refine pj_Cn.start ?_
  refine pj_J.go (oX4_breaks G) 3 rfl trivial ?_
  refine pj_J.cal0 kX4_breaks_4 (ca) ⟨_, _, _, rfl, rfl⟩ pj_le0 pj_le0 pj_le0 ?_
  refine pj_J.go (oX4_breaks G) 3 rfl trivial ?_
  refine pj_J.swc (fun hs10_0 => ?_) (fun hs10_0 => ?_)
  · skip
    refine pj_J.go (oX4_breaks G) 4 rfl trivial ?_
    refine pj_for (fun k s => pj_J G mX4_breaks (d + 9) 54 [some (.ref 59), some (.int p), some (.int law), some (.int oth), some (.int u), some (.int (fm_tA m p u).1), some (.long s), none, some (.int (nI k))] [] (sx_mk c (fm_tA m p u).2 o D) 0 0 _) (fm_bsB (fm_tA m p u).2) (fun _ _ => True) 8 (fun k s hk hi => ⟨hi, fun kk => ly_fm_bsB p law oth u _ k s hk (by rw [nI_add1]; exact kk)⟩) 8 0 0 (by simp) trivial (fun hi => lz_fm_bsB p law oth u _ _ ?_)
    show _ = _ ∧ _ = _
    unfold fm_breaks
    rw [if_pos (show law = (0 : Int32) from hs10_0)]
    exact ⟨rfl, rfl⟩
  refine pj_J.swc (fun hs10_1 => ?_) (fun hs10_1 => ?_)
  · skip
    refine pj_J.go (oX4_breaks G) 1 rfl trivial ?_
    refine pj_J.cal0 kX4_breaks_101 (c_X4_notes (m := ((fm_tA m p u).2))) ⟨_, _, _, rfl, rfl⟩ pj_le0 pj_le0 pj_le0 ?_
    refine pj_J.go (oX4_breaks G) 4 rfl trivial ?_
    refine pj_J.cal0 kX4_breaks_109 ((cb1 (by assumption))) ⟨_, _, _, rfl, rfl⟩ pj_le0 pj_le0 pj_le0 ?_
    refine pj_J.go (oX4_breaks G) 2 rfl trivial ?_
    refine pj_J.ite (fun hc114 => ?_) (fun hc114 => ?_)
    · skip
      refine pj_J.go (oX4_breaks G) 2 rfl trivial ?_
      refine pj_J.ite (fun hc119 => ?_) (fun hc119 => ?_)
      · skip
        refine pj_J.go (oX4_breaks G) 2 rfl trivial ?_
        refine pj_J.cal0 kX4_breaks_126 (c_X4_differs (m := ((fm_tA (fm_notes ((fm_tA m p u).2)) p (-u)).2)) (-1 : Int64)) ⟨_, _, _, rfl, rfl⟩ pj_le0 pj_le0 pj_le0 ?_
        refine pj_J.go (oX4_breaks G) 1 rfl trivial ?_
        refine pj_J.ite (fun hc129 => ?_) (fun hc129 => ?_)
        · skip
          refine pj_J.go (oX4_breaks G) 1 rfl trivial ?_
          refine pj_zret dX4_breaks_137 rfl (by first | exact Or.inl rfl | exact Or.inr rfl | exact pj_b01 _ | assumption) ?_
          show _ = _ ∧ _ = _
          have e : fm_breaks F m p law oth u = ((0 : Int32), ((fm_tA (fm_notes ((fm_tA m p u).2)) p (-u)).2)) := by unfold fm_breaks; rw [if_neg (show ¬ (law = (0 : Int32)) from hs10_0), if_pos (show law = (1 : Int32) from hs10_1), if_pos (show (fm_tA (fm_notes ((fm_tA m p u).2)) p (-u)).1 = (fm_tA m p u).1 from hc114), if_pos (show (fm_tA m p u).1 = (0 : Int32) from hc119), if_pos (show (fm_differs ((fm_tA (fm_notes ((fm_tA m p u).2)) p (-u)).2) (-1 : Int64)) = (0 : Int32) from hc129)]
          rw [e]
          try dsimp only
          exact ⟨rfl, rfl⟩
        · skip
          refine pj_J.go (oX4_breaks G) 2 rfl trivial ?_
          refine pj_zret dX4_breaks_137 rfl (by first | exact Or.inl rfl | exact Or.inr rfl | exact pj_b01 _ | assumption) ?_
          show _ = _ ∧ _ = _
          have e : fm_breaks F m p law oth u = ((1 : Int32), ((fm_tA (fm_notes ((fm_tA m p u).2)) p (-u)).2)) := by unfold fm_breaks; rw [if_neg (show ¬ (law = (0 : Int32)) from hs10_0), if_pos (show law = (1 : Int32) from hs10_1), if_pos (show (fm_tA (fm_notes ((fm_tA m p u).2)) p (-u)).1 = (fm_tA m p u).1 from hc114), if_pos (show (fm_tA m p u).1 = (0 : Int32) from hc119), if_neg (show ¬ ((fm_differs ((fm_tA (fm_notes ((fm_tA m p u).2)) p (-u)).2) (-1 : Int64)) = (0 : Int32)) from hc129)]
          rw [e]
          try dsimp only
          exact ⟨rfl, rfl⟩
      · skip
        refine pj_J.go (oX4_breaks G) 1 rfl trivial ?_
        refine pj_zret dX4_breaks_137 rfl (by first | exact Or.inl rfl | exact Or.inr rfl | exact pj_b01 _ | assumption) ?_
        show _ = _ ∧ _ = _
        have e : fm_breaks F m p law oth u = ((0 : Int32), ((fm_tA (fm_notes ((fm_tA m p u).2)) p (-u)).2)) := by unfold fm_breaks; rw [if_neg (show ¬ (law = (0 : Int32)) from hs10_0), if_pos (show law = (1 : Int32) from hs10_1), if_pos (show (fm_tA (fm_notes ((fm_tA m p u).2)) p (-u)).1 = (fm_tA m p u).1 from hc114), if_neg (show ¬ ((fm_tA m p u).1 = (0 : Int32)) from hc119)]
        rw [e]
        try dsimp only
        exact ⟨rfl, rfl⟩
    · skip
      refine pj_J.go (oX4_breaks G) 2 rfl trivial ?_
      refine pj_zret dX4_breaks_137 rfl (by first | exact Or.inl rfl | exact Or.inr rfl | exact pj_b01 _ | assumption) ?_
      show _ = _ ∧ _ = _
      have e : fm_breaks F m p law oth u = ((1 : Int32), ((fm_tA (fm_notes ((fm_tA m p u).2)) p (-u)).2)) := by unfold fm_breaks; rw [if_neg (show ¬ (law = (0 : Int32)) from hs10_0), if_pos (show law = (1 : Int32) from hs10_1), if_neg (show ¬ ((fm_tA (fm_notes ((fm_tA m p u).2)) p (-u)).1 = (fm_tA m p u).1) from hc114)]
      rw [e]
      try dsimp only
      exact ⟨rfl, rfl⟩
  refine pj_J.swc (fun hs10_2 => ?_) (fun hs10_2 => ?_)
  · skip
    refine pj_J.go (oX4_breaks G) 1 rfl trivial ?_
    refine pj_J.cal0 kX4_breaks_139 (c_X4_notes (m := ((fm_tA m p u).2))) ⟨_, _, _, rfl, rfl⟩ pj_le0 pj_le0 pj_le0 ?_
    refine pj_J.go (oX4_breaks G) 3 rfl trivial ?_
    refine pj_J.cal0 kX4_breaks_146 ((cb2 (by assumption))) ⟨_, _, _, rfl, rfl⟩ pj_le0 pj_le0 pj_le0 ?_
    refine pj_J.go (oX4_breaks G) 2 rfl trivial ?_
    refine pj_J.ite (fun hc151 => ?_) (fun hc151 => ?_)
    · skip
      refine pj_J.go (oX4_breaks G) 2 rfl trivial ?_
      refine pj_J.ite (fun hc156 => ?_) (fun hc156 => ?_)
      · skip
        refine pj_J.go (oX4_breaks G) 2 rfl trivial ?_
        refine pj_J.cal0 kX4_breaks_161 (c_X4_differs (m := ((fm_tA (fm_notes ((fm_tA m p u).2)) oth u).2)) (1 : Int64)) ⟨_, _, _, rfl, rfl⟩ pj_le0 pj_le0 pj_le0 ?_
        refine pj_J.go (oX4_breaks G) 1 rfl trivial ?_
        refine pj_J.ite (fun hc164 => ?_) (fun hc164 => ?_)
        · skip
          refine pj_J.go (oX4_breaks G) 1 rfl trivial ?_
          refine pj_zret dX4_breaks_172 rfl (by first | exact Or.inl rfl | exact Or.inr rfl | exact pj_b01 _ | assumption) ?_
          show _ = _ ∧ _ = _
          have e : fm_breaks F m p law oth u = ((0 : Int32), ((fm_tA (fm_notes ((fm_tA m p u).2)) oth u).2)) := by unfold fm_breaks; rw [if_neg (show ¬ (law = (0 : Int32)) from hs10_0), if_neg (show ¬ (law = (1 : Int32)) from hs10_1), if_pos (show law = (2 : Int32) from hs10_2), if_pos (show (fm_tA (fm_notes ((fm_tA m p u).2)) oth u).1 = (fm_tA m p u).1 from hc151), if_pos (show (fm_tA m p u).1 = (0 : Int32) from hc156), if_pos (show (fm_differs ((fm_tA (fm_notes ((fm_tA m p u).2)) oth u).2) (1 : Int64)) = (0 : Int32) from hc164)]
          rw [e]
          try dsimp only
          exact ⟨rfl, rfl⟩
        · skip
          refine pj_J.go (oX4_breaks G) 2 rfl trivial ?_
          refine pj_zret dX4_breaks_172 rfl (by first | exact Or.inl rfl | exact Or.inr rfl | exact pj_b01 _ | assumption) ?_
          show _ = _ ∧ _ = _
          have e : fm_breaks F m p law oth u = ((1 : Int32), ((fm_tA (fm_notes ((fm_tA m p u).2)) oth u).2)) := by unfold fm_breaks; rw [if_neg (show ¬ (law = (0 : Int32)) from hs10_0), if_neg (show ¬ (law = (1 : Int32)) from hs10_1), if_pos (show law = (2 : Int32) from hs10_2), if_pos (show (fm_tA (fm_notes ((fm_tA m p u).2)) oth u).1 = (fm_tA m p u).1 from hc151), if_pos (show (fm_tA m p u).1 = (0 : Int32) from hc156), if_neg (show ¬ ((fm_differs ((fm_tA (fm_notes ((fm_tA m p u).2)) oth u).2) (1 : Int64)) = (0 : Int32)) from hc164)]
          rw [e]
          try dsimp only
          exact ⟨rfl, rfl⟩
      · skip
        refine pj_J.go (oX4_breaks G) 1 rfl trivial ?_
        refine pj_zret dX4_breaks_172 rfl (by first | exact Or.inl rfl | exact Or.inr rfl | exact pj_b01 _ | assumption) ?_
        show _ = _ ∧ _ = _
        have e : fm_breaks F m p law oth u = ((0 : Int32), ((fm_tA (fm_notes ((fm_tA m p u).2)) oth u).2)) := by unfold fm_breaks; rw [if_neg (show ¬ (law = (0 : Int32)) from hs10_0), if_neg (show ¬ (law = (1 : Int32)) from hs10_1), if_pos (show law = (2 : Int32) from hs10_2), if_pos (show (fm_tA (fm_notes ((fm_tA m p u).2)) oth u).1 = (fm_tA m p u).1 from hc151), if_neg (show ¬ ((fm_tA m p u).1 = (0 : Int32)) from hc156)]
        rw [e]
        try dsimp only
        exact ⟨rfl, rfl⟩
    · skip
      refine pj_J.go (oX4_breaks G) 2 rfl trivial ?_
      refine pj_zret dX4_breaks_172 rfl (by first | exact Or.inl rfl | exact Or.inr rfl | exact pj_b01 _ | assumption) ?_
      show _ = _ ∧ _ = _
      have e : fm_breaks F m p law oth u = ((1 : Int32), ((fm_tA (fm_notes ((fm_tA m p u).2)) oth u).2)) := by unfold fm_breaks; rw [if_neg (show ¬ (law = (0 : Int32)) from hs10_0), if_neg (show ¬ (law = (1 : Int32)) from hs10_1), if_pos (show law = (2 : Int32) from hs10_2), if_neg (show ¬ ((fm_tA (fm_notes ((fm_tA m p u).2)) oth u).1 = (fm_tA m p u).1) from hc151)]
      rw [e]
      try dsimp only
      exact ⟨rfl, rfl⟩
  refine pj_J.swc (fun hs10_3 => ?_) (fun hs10_3 => ?_)
  · skip
    refine pj_J.go (oX4_breaks G) 2 rfl trivial ?_
    refine pj_J.ite (fun hc175 => ?_) (fun hc175 => ?_)
    · skip
      refine pj_J.go (oX4_breaks G) 1 rfl trivial ?_
      refine pj_J.cal0 kX4_breaks_179 (cu (by assumption) (by assumption)) ⟨_, _, _, rfl, rfl⟩ pj_le0 pj_le0 pj_le0 ?_
      refine pj_J.go (oX4_breaks G) 1 rfl trivial ?_
      refine pj_J.ite (fun hc182 => ?_) (fun hc182 => ?_)
      · skip
        refine pj_J.go (oX4_breaks G) 1 rfl trivial ?_
        refine pj_zret dX4_breaks_190 rfl (by first | exact Or.inl rfl | exact Or.inr rfl | exact pj_b01 _ | assumption) ?_
        show _ = _ ∧ _ = _
        have e : fm_breaks F m p law oth u = ((0 : Int32), ((fm_tA m p u).2)) := by unfold fm_breaks; rw [if_neg (show ¬ (law = (0 : Int32)) from hs10_0), if_neg (show ¬ (law = (1 : Int32)) from hs10_1), if_neg (show ¬ (law = (2 : Int32)) from hs10_2), if_pos (show law = (3 : Int32) from hs10_3), if_pos (show (fm_tA m p u).1 = (0 : Int32) from hc175), if_pos (show (fm_isUnfair ((fm_tA m p u).2)) = (0 : Int32) from hc182)]
        rw [e]
        try dsimp only
        exact ⟨rfl, rfl⟩
      · skip
        refine pj_J.go (oX4_breaks G) 2 rfl trivial ?_
        refine pj_zret dX4_breaks_190 rfl (by first | exact Or.inl rfl | exact Or.inr rfl | exact pj_b01 _ | assumption) ?_
        show _ = _ ∧ _ = _
        have e : fm_breaks F m p law oth u = ((1 : Int32), ((fm_tA m p u).2)) := by unfold fm_breaks; rw [if_neg (show ¬ (law = (0 : Int32)) from hs10_0), if_neg (show ¬ (law = (1 : Int32)) from hs10_1), if_neg (show ¬ (law = (2 : Int32)) from hs10_2), if_pos (show law = (3 : Int32) from hs10_3), if_pos (show (fm_tA m p u).1 = (0 : Int32) from hc175), if_neg (show ¬ ((fm_isUnfair ((fm_tA m p u).2)) = (0 : Int32)) from hc182)]
        rw [e]
        try dsimp only
        exact ⟨rfl, rfl⟩
    · skip
      refine pj_J.go (oX4_breaks G) 1 rfl trivial ?_
      refine pj_zret dX4_breaks_190 rfl (by first | exact Or.inl rfl | exact Or.inr rfl | exact pj_b01 _ | assumption) ?_
      show _ = _ ∧ _ = _
      have e : fm_breaks F m p law oth u = ((0 : Int32), ((fm_tA m p u).2)) := by unfold fm_breaks; rw [if_neg (show ¬ (law = (0 : Int32)) from hs10_0), if_neg (show ¬ (law = (1 : Int32)) from hs10_1), if_neg (show ¬ (law = (2 : Int32)) from hs10_2), if_pos (show law = (3 : Int32) from hs10_3), if_neg (show ¬ ((fm_tA m p u).1 = (0 : Int32)) from hc175)]
      rw [e]
      try dsimp only
      exact ⟨rfl, rfl⟩
  refine pj_J.swc (fun hs10_4 => ?_) (fun hs10_4 => ?_)
  · skip
    refine pj_J.go (oX4_breaks G) 1 rfl trivial ?_
    refine pj_zret dX4_breaks_193 rfl (fm_tA01 _ _ _) ?_
    show _ = _ ∧ _ = _
    have e : fm_breaks F m p law oth u = ((fm_tA m p u).1, ((fm_tA m p u).2)) := by unfold fm_breaks; rw [if_neg (show ¬ (law = (0 : Int32)) from hs10_0), if_neg (show ¬ (law = (1 : Int32)) from hs10_1), if_neg (show ¬ (law = (2 : Int32)) from hs10_2), if_neg (show ¬ (law = (3 : Int32)) from hs10_3), if_pos (show law = (4 : Int32) from hs10_4)]
    rw [e]
    try dsimp only
    exact ⟨rfl, rfl⟩
  refine pj_J.swc (fun hs10_5 => ?_) (fun hs10_5 => ?_)
  · skip
    refine pj_J.go (oX4_breaks G) 2 rfl trivial ?_
    refine pj_J.ite (fun hc196 => ?_) (fun hc196 => ?_)
    · skip
      refine pj_J.go (oX4_breaks G) 3 rfl trivial ?_
      refine pj_J.ite (fun hc203 => ?_) (fun hc203 => ?_)
      · skip
        refine pj_J.go (oX4_breaks G) 1 rfl trivial ?_
        refine pj_zret dX4_breaks_211 rfl (by first | exact Or.inl rfl | exact Or.inr rfl | exact pj_b01 _ | assumption) ?_
        show _ = _ ∧ _ = _
        have e : fm_breaks F m p law oth u = ((0 : Int32), ((fm_tA m p u).2)) := by unfold fm_breaks; rw [if_neg (show ¬ (law = (0 : Int32)) from hs10_0), if_neg (show ¬ (law = (1 : Int32)) from hs10_1), if_neg (show ¬ (law = (2 : Int32)) from hs10_2), if_neg (show ¬ (law = (3 : Int32)) from hs10_3), if_neg (show ¬ (law = (4 : Int32)) from hs10_4), if_pos (show law = (5 : Int32) from hs10_5), if_pos (show (fm_tA m p u).1 = (0 : Int32) from hc196), if_pos (show (sx_i ((fm_tA m p u).2) 31) ≤ (0 : Int32) from hc203)]
        rw [e]
        try dsimp only
        exact ⟨rfl, rfl⟩
      · skip
        refine pj_J.go (oX4_breaks G) 2 rfl trivial ?_
        refine pj_zret dX4_breaks_211 rfl (by first | exact Or.inl rfl | exact Or.inr rfl | exact pj_b01 _ | assumption) ?_
        show _ = _ ∧ _ = _
        have e : fm_breaks F m p law oth u = ((1 : Int32), ((fm_tA m p u).2)) := by unfold fm_breaks; rw [if_neg (show ¬ (law = (0 : Int32)) from hs10_0), if_neg (show ¬ (law = (1 : Int32)) from hs10_1), if_neg (show ¬ (law = (2 : Int32)) from hs10_2), if_neg (show ¬ (law = (3 : Int32)) from hs10_3), if_neg (show ¬ (law = (4 : Int32)) from hs10_4), if_pos (show law = (5 : Int32) from hs10_5), if_pos (show (fm_tA m p u).1 = (0 : Int32) from hc196), if_neg (show ¬ ((sx_i ((fm_tA m p u).2) 31) ≤ (0 : Int32)) from hc203)]
        rw [e]
        try dsimp only
        exact ⟨rfl, rfl⟩
    · skip
      refine pj_J.go (oX4_breaks G) 1 rfl trivial ?_
      refine pj_zret dX4_breaks_211 rfl (by first | exact Or.inl rfl | exact Or.inr rfl | exact pj_b01 _ | assumption) ?_
      show _ = _ ∧ _ = _
      have e : fm_breaks F m p law oth u = ((0 : Int32), ((fm_tA m p u).2)) := by unfold fm_breaks; rw [if_neg (show ¬ (law = (0 : Int32)) from hs10_0), if_neg (show ¬ (law = (1 : Int32)) from hs10_1), if_neg (show ¬ (law = (2 : Int32)) from hs10_2), if_neg (show ¬ (law = (3 : Int32)) from hs10_3), if_neg (show ¬ (law = (4 : Int32)) from hs10_4), if_pos (show law = (5 : Int32) from hs10_5), if_neg (show ¬ ((fm_tA m p u).1 = (0 : Int32)) from hc196)]
      rw [e]
      try dsimp only
      exact ⟨rfl, rfl⟩
  refine pj_J.swn ?_
  refine pj_J.go (oX4_breaks G) 2 rfl trivial ?_
  refine pj_J.ite (fun hc214 => ?_) (fun hc214 => ?_)
  · skip
    refine pj_J.go (oX4_breaks G) 1 rfl trivial ?_
    refine pj_J.cal0 kX4_breaks_220 (c_X4_notes (m := ((fm_tA m p u).2))) ⟨_, _, _, rfl, rfl⟩ pj_le0 pj_le0 pj_le0 ?_
    refine pj_J.go (oX4_breaks G) 3 rfl trivial ?_
    refine pj_J.cal0 kX4_breaks_227 (cf (by assumption) (by assumption)) ⟨_, _, _, rfl, rfl⟩ pj_le0 pj_le0 pj_le0 ?_
    refine pj_J.go (oX4_breaks G) 2 rfl trivial ?_
    refine pj_J.cal0 kX4_breaks_232 (c_X4_differs (m := (F (fm_notes ((fm_tA m p u).2)) p u)) (1 : Int64)) ⟨_, _, _, rfl, rfl⟩ pj_le0 pj_le0 pj_le0 ?_
    refine pj_zret dX4_breaks_235 rfl (fm_differs01 _ _) ?_
    show _ = _ ∧ _ = _
    have e : fm_breaks F m p law oth u = ((fm_differs (F (fm_notes ((fm_tA m p u).2)) p u) (1 : Int64)), (F (fm_notes ((fm_tA m p u).2)) p u)) := by unfold fm_breaks; rw [if_neg (show ¬ (law = (0 : Int32)) from hs10_0), if_neg (show ¬ (law = (1 : Int32)) from hs10_1), if_neg (show ¬ (law = (2 : Int32)) from hs10_2), if_neg (show ¬ (law = (3 : Int32)) from hs10_3), if_neg (show ¬ (law = (4 : Int32)) from hs10_4), if_neg (show ¬ (law = (5 : Int32)) from hs10_5), if_pos (show (fm_tA m p u).1 = (0 : Int32) from hc214)]
    rw [e]
    try dsimp only
    exact ⟨rfl, rfl⟩
  · skip
    refine pj_J.go (oX4_breaks G) 1 rfl trivial ?_
    refine pj_zret dX4_breaks_218 rfl (by first | exact Or.inl rfl | exact Or.inr rfl | exact pj_b01 _ | assumption) ?_
    show _ = _ ∧ _ = _
    have e : fm_breaks F m p law oth u = ((0 : Int32), ((fm_tA m p u).2)) := by unfold fm_breaks; rw [if_neg (show ¬ (law = (0 : Int32)) from hs10_0), if_neg (show ¬ (law = (1 : Int32)) from hs10_1), if_neg (show ¬ (law = (2 : Int32)) from hs10_2), if_neg (show ¬ (law = (3 : Int32)) from hs10_3), if_neg (show ¬ (law = (4 : Int32)) from hs10_4), if_neg (show ¬ (law = (5 : Int32)) from hs10_5), if_neg (show ¬ ((fm_tA m p u).1 = (0 : Int32)) from hc214)]
    rw [e]
    try dsimp only
    exact ⟨rfl, rfl⟩
def fm_lsL (B : sx_M → Int32 → Int32 × sx_M) : Nat → Int32 → sx_M → Int32 × sx_M
  | 0, _, m => (9999999, m)
  | e + 1, u, m => if (B m u).1 = 0 then fm_lsL B e (u + 1) (B m u).2 else (u, (B m u).2)
theorem lb_X4_leastOf {G : pj_G} {d : Nat} {c : sx_C} {m : sx_M} {o : Nat → Int64} {D : pj_H} {Q : pj_O → pj_H → Prop} (p law oth x y u : Int32) (hu : ¬ y < u) (r : Int32) (m1 : sx_M) (cb : pj_Rt G mX4_breaks d [.ref 59, .int p, .int law, .int oth, .int u] (sx_mk c m o D) 0 0 (some (.int r)) (sx_mk c m1 o D)) (q : ¬ r = 0 → Q (.inl (some (.int u))) (sx_mk c m1 o D)) (kk : r = 0 → pj_J G mX4_leastOf (d + 1) 4 [some (.ref 59), some (.int p), some (.int law), some (.int oth), some (.int x), some (.int y), some (.int (u + 1))] [] (sx_mk c m1 o D) 0 0 Q) : pj_J G mX4_leastOf (d + 1) 4 [some (.ref 59), some (.int p), some (.int law), some (.int oth), some (.int x), some (.int y), some (.int u)] [] (sx_mk c m o D) 0 0 Q := by
  refine pj_J.go (oX4_leastOf G) 3 rfl trivial ?_
  refine pj_J.neg (hu) ?_
  refine pj_J.go (oX4_leastOf G) 5 rfl trivial ?_
  refine pj_J.cal0 kX4_leastOf_17 (cb) ⟨_, _, _, rfl, rfl⟩ pj_le0 pj_le0 pj_le0 ?_
  refine pj_J.go (oX4_leastOf G) 1 rfl trivial ?_
  refine pj_J.ite (fun hc20 => ?_) (fun hc20 => ?_)
  · skip
    refine pj_J.go (oX4_leastOf G) 2 rfl trivial ?_
    exact kk hc20
  · skip
    refine pj_J.go (oX4_leastOf G) 1 rfl trivial ?_
    exact pj_iret dX4_leastOf_25 rfl (q hc20)
theorem lz_X4_leastOf {G : pj_G} {d : Nat} {c : sx_C} {m : sx_M} {o : Nat → Int64} {D : pj_H} {Q : pj_O → pj_H → Prop} (p law oth x y u : Int32) (hu : y < u) (q : Q (.inl (some (.int 9999999))) (sx_mk c m o D)) : pj_J G mX4_leastOf (d) 4 [some (.ref 59), some (.int p), some (.int law), some (.int oth), some (.int x), some (.int y), some (.int u)] [] (sx_mk c m o D) 0 0 Q := by
  refine pj_J.go (oX4_leastOf G) 3 rfl trivial ?_
  refine pj_J.pos (hu) ?_
  refine pj_J.go (oX4_leastOf G) 1 rfl trivial ?_
  exact pj_iret dX4_leastOf_35 rfl q
theorem lp_X4_leastOf {G : pj_G} {d : Nat} {c : sx_C} {o : Nat → Int64} {D : pj_H} {Q : pj_O → pj_H → Prop} (p law oth x y : Int32) (B : sx_M → Int32 → Int32 × sx_M) (I : sx_M → Prop) (hy : y.toInt ≤ 1000000) (hB : ∀ m u, I m → x ≤ u → u ≤ y → pj_Rt G mX4_breaks d [.ref 59, .int p, .int law, .int oth, .int u] (sx_mk c m o D) 0 0 (some (.int (B m u).1)) (sx_mk c (B m u).2 o D) ∧ I (B m u).2) :
    ∀ (e : Nat) (u : Int32) (m : sx_M), I m → x ≤ u → u.toInt + e = y.toInt + 1 → Q (.inl (some (.int (fm_lsL B e u m).1))) (sx_mk c (fm_lsL B e u m).2 o D) → pj_J G mX4_leastOf (d + 1) 4 [some (.ref 59), some (.int p), some (.int law), some (.int oth), some (.int x), some (.int y), some (.int u)] [] (sx_mk c m o D) 0 0 Q := by
  intro e
  induction e with
  | zero =>
    intro u m hi hx he hq
    exact lz_X4_leastOf p law oth x y u (by rw [Int32.lt_iff_toInt_lt]; omega) hq
  | succ e ih =>
    intro u m hi hx he hq
    have hu : ¬ y < u := by rw [Int32.lt_iff_toInt_lt]; omega
    obtain ⟨hb, hi2⟩ := hB m u hi hx (Int32.not_lt.mp hu)
    have h1 : (u + 1).toInt = u.toInt + 1 := by
      rw [Int32.toInt_add]
      have : (1 : Int32).toInt = 1 := rfl
      have := Int32.le_toInt u
      exact Int.bmod_eq_of_le (by omega) (by omega)
    refine lb_X4_leastOf p law oth x y u hu _ _ hb (fun h => ?_) (fun h => ?_)
    · unfold fm_lsL at hq
      rw [if_neg h] at hq
      exact hq
    · unfold fm_lsL at hq
      rw [if_pos h] at hq
      exact ih (u + 1) _ hi2 (by rw [Int32.le_iff_toInt_le] at hx ⊢; omega) (by omega) hq
def fm_leastOf (B : sx_M → Int32 → Int32 × sx_M) (m : sx_M) (x y : Int32) : Int32 × sx_M := fm_lsL B (y.toInt + 1 - x.toInt).toNat x m
theorem c_X4_leastOf {G : pj_G} {d : Nat} {c : sx_C} {m : sx_M} {o : Nat → Int64} {D : pj_H} (p law oth x y : Int32) (B : sx_M → Int32 → Int32 × sx_M) (I : sx_M → Prop) (hI : I m) (hxy : x ≤ y) (hy : y.toInt ≤ 1000000) (hB : ∀ m u, I m → x ≤ u → u ≤ y → pj_Rt G mX4_breaks d [.ref 59, .int p, .int law, .int oth, .int u] (sx_mk c m o D) 0 0 (some (.int (B m u).1)) (sx_mk c (B m u).2 o D) ∧ I (B m u).2) : pj_Rt G mX4_leastOf (d + 1) [.ref 59, .int p, .int law, .int oth, .int x, .int y] (sx_mk c m o D) 0 0 (some (.int (fm_leastOf B m x y).1)) (sx_mk c (fm_leastOf B m x y).2 o D) := by
  refine pj_Cn.start ?_
  refine pj_J.go (oX4_leastOf G) 2 rfl trivial ?_
  exact lp_X4_leastOf p law oth x y B I hy hB _ x m hI (Int32.le_refl _) (by rw [Int32.le_iff_toInt_le] at hxy; omega) ⟨rfl, rfl⟩
def fm_least (LO : sx_M → Int32 → Int32 → Int32 → Int32 → Int32 → Int32 × sx_M) (m : sx_M) (p law oth x y : Int32) : Int32 × sx_M := if fm_isProgram m p = 0 then (-1, m) else if fm_in law 0 6 = 0 then (-1, m) else if law = 2 then (if fm_isProgram m oth = 0 then (-1, m) else if fm_isSpan x y 2000 = 0 then (-1, m) else LO m p law oth x y) else if oth = -1 then (if fm_isSpan x y 2000 = 0 then (-1, m) else LO m p law oth x y) else (-1, m)
theorem c_X4_least {G : pj_G} {d : Nat} {c : sx_C} {m : sx_M} {o : Nat → Int64} {D : pj_H} (p : Int32) (law : Int32) (oth : Int32) (x : Int32) (y : Int32) (LO : sx_M → Int32 → Int32 → Int32 → Int32 → Int32 → Int32 × sx_M) (cl : ¬ fm_isProgram m p = 0 → ¬ fm_in law 0 6 = 0 → (law = 2 → ¬ fm_isProgram m oth = 0) → ¬ fm_isSpan x y 2000 = 0 → pj_Rt G mX4_leastOf (d + 1) [.ref 59, .int p, .int law, .int oth, .int x, .int y] (sx_mk c m o D) 0 0 (some (.int (LO m p law oth x y).1)) (sx_mk c (LO m p law oth x y).2 o D)) : pj_Rt G mX4_least (d + 2) [.ref 59, .int p, .int law, .int oth, .int x, .int y] (sx_mk c m o D) 0 0 (some (.int ((fm_least LO m p law oth x y).1))) (sx_mk c (fm_least LO m p law oth x y).2 o D) := by
  refine pj_Cn.start ?_
  refine pj_J.go (oX4_least G) 2 rfl trivial ?_
  refine pj_J.cal0 kX4_least_2 (c_X4_isProgram (m := m) p) ⟨_, _, _, rfl, rfl⟩ pj_le0 pj_le0 pj_le0 ?_
  refine pj_J.go (oX4_least G) 1 rfl trivial ?_
  refine pj_J.ite (fun hc5 => ?_) (fun hc5 => ?_)
  · skip
    refine pj_J.go (oX4_least G) 1 rfl trivial ?_
    refine pj_iret dX4_least_53 rfl ?_
    show _ = _ ∧ _ = _
    have e : fm_least LO m p law oth x y = ((-1 : Int32), m) := by unfold fm_least; rw [if_pos (show (fm_isProgram m p) = (0 : Int32) from hc5)]
    rw [e]
    try dsimp only
    exact ⟨rfl, rfl⟩
  · skip
    refine pj_J.go (oX4_least G) 3 rfl trivial ?_
    refine pj_J.cal0 kX4_least_12 (c_X4_in law (0 : Int32) (6 : Int32)) trivial pj_le0 pj_le0 pj_le0 ?_
    refine pj_J.go (oX4_least G) 1 rfl trivial ?_
    refine pj_J.ite (fun hc15 => ?_) (fun hc15 => ?_)
    · skip
      refine pj_J.go (oX4_least G) 1 rfl trivial ?_
      refine pj_iret dX4_least_53 rfl ?_
      show _ = _ ∧ _ = _
      have e : fm_least LO m p law oth x y = ((-1 : Int32), m) := by unfold fm_least; rw [if_neg (show ¬ ((fm_isProgram m p) = (0 : Int32)) from hc5), if_pos (show (fm_in law (0 : Int32) (6 : Int32)) = (0 : Int32) from hc15)]
      rw [e]
      try dsimp only
      exact ⟨rfl, rfl⟩
    · skip
      refine pj_J.go (oX4_least G) 3 rfl trivial ?_
      refine pj_J.ite (fun hc20 => ?_) (fun hc20 => ?_)
      · skip
        refine pj_J.go (oX4_least G) 2 rfl trivial ?_
        refine pj_J.cal0 kX4_least_25 (c_X4_isProgram (m := m) oth) ⟨_, _, _, rfl, rfl⟩ pj_le0 pj_le0 pj_le0 ?_
        refine pj_J.go (oX4_least G) 1 rfl trivial ?_
        refine pj_J.ite (fun hc28 => ?_) (fun hc28 => ?_)
        · skip
          refine pj_J.go (oX4_least G) 2 rfl trivial ?_
          refine pj_iret dX4_least_53 rfl ?_
          show _ = _ ∧ _ = _
          have e : fm_least LO m p law oth x y = ((-1 : Int32), m) := by unfold fm_least; rw [if_neg (show ¬ ((fm_isProgram m p) = (0 : Int32)) from hc5), if_neg (show ¬ ((fm_in law (0 : Int32) (6 : Int32)) = (0 : Int32)) from hc15), if_pos (show law = (2 : Int32) from hc20), if_pos (show (fm_isProgram m oth) = (0 : Int32) from hc28)]
          rw [e]
          try dsimp only
          exact ⟨rfl, rfl⟩
        · skip
          refine pj_J.go (oX4_least G) 3 rfl trivial ?_
          refine pj_J.cal0 kX4_least_46 (c_X4_isSpan x y (2000 : Int32)) trivial pj_le0 pj_le0 pj_le0 ?_
          refine pj_J.go (oX4_least G) 1 rfl trivial ?_
          refine pj_J.ite (fun hc49 => ?_) (fun hc49 => ?_)
          · skip
            refine pj_J.go (oX4_least G) 1 rfl trivial ?_
            refine pj_iret dX4_least_53 rfl ?_
            show _ = _ ∧ _ = _
            have e : fm_least LO m p law oth x y = ((-1 : Int32), m) := by unfold fm_least; rw [if_neg (show ¬ ((fm_isProgram m p) = (0 : Int32)) from hc5), if_neg (show ¬ ((fm_in law (0 : Int32) (6 : Int32)) = (0 : Int32)) from hc15), if_pos (show law = (2 : Int32) from hc20), if_neg (show ¬ ((fm_isProgram m oth) = (0 : Int32)) from hc28), if_pos (show (fm_isSpan x y (2000 : Int32)) = (0 : Int32) from hc49)]
            rw [e]
            try dsimp only
            exact ⟨rfl, rfl⟩
          · skip
            refine pj_J.go (oX4_least G) 6 rfl trivial ?_
            refine pj_J.cal0 kX4_least_62 (cl hc5 hc15 (fun _ => by first | assumption | (exact absurd (by assumption) (by assumption))) (by assumption)) ⟨_, _, _, rfl, rfl⟩ pj_le0 pj_le0 pj_le0 ?_
            refine pj_iret dX4_least_65 rfl ?_
            show _ = _ ∧ _ = _
            have e : fm_least LO m p law oth x y = ((LO m p law oth x y).1, ((LO m p law oth x y).2)) := by unfold fm_least; rw [if_neg (show ¬ ((fm_isProgram m p) = (0 : Int32)) from hc5), if_neg (show ¬ ((fm_in law (0 : Int32) (6 : Int32)) = (0 : Int32)) from hc15), if_pos (show law = (2 : Int32) from hc20), if_neg (show ¬ ((fm_isProgram m oth) = (0 : Int32)) from hc28), if_neg (show ¬ ((fm_isSpan x y (2000 : Int32)) = (0 : Int32)) from hc49)]
            rw [e]
            try dsimp only
            exact ⟨rfl, rfl⟩
      · skip
        refine pj_J.go (oX4_least G) 3 rfl trivial ?_
        refine pj_J.ite (fun hc36 => ?_) (fun hc36 => ?_)
        · skip
          refine pj_J.go (oX4_least G) 3 rfl trivial ?_
          refine pj_J.cal0 kX4_least_46 (c_X4_isSpan x y (2000 : Int32)) trivial pj_le0 pj_le0 pj_le0 ?_
          refine pj_J.go (oX4_least G) 1 rfl trivial ?_
          refine pj_J.ite (fun hc49 => ?_) (fun hc49 => ?_)
          · skip
            refine pj_J.go (oX4_least G) 1 rfl trivial ?_
            refine pj_iret dX4_least_53 rfl ?_
            show _ = _ ∧ _ = _
            have e : fm_least LO m p law oth x y = ((-1 : Int32), m) := by unfold fm_least; rw [if_neg (show ¬ ((fm_isProgram m p) = (0 : Int32)) from hc5), if_neg (show ¬ ((fm_in law (0 : Int32) (6 : Int32)) = (0 : Int32)) from hc15), if_neg (show ¬ (law = (2 : Int32)) from hc20), if_pos (show oth = (-1 : Int32) from hc36), if_pos (show (fm_isSpan x y (2000 : Int32)) = (0 : Int32) from hc49)]
            rw [e]
            try dsimp only
            exact ⟨rfl, rfl⟩
          · skip
            refine pj_J.go (oX4_least G) 6 rfl trivial ?_
            refine pj_J.cal0 kX4_least_62 (cl hc5 hc15 (fun _ => by first | assumption | (exact absurd (by assumption) (by assumption))) (by assumption)) ⟨_, _, _, rfl, rfl⟩ pj_le0 pj_le0 pj_le0 ?_
            refine pj_iret dX4_least_65 rfl ?_
            show _ = _ ∧ _ = _
            have e : fm_least LO m p law oth x y = ((LO m p law oth x y).1, ((LO m p law oth x y).2)) := by unfold fm_least; rw [if_neg (show ¬ ((fm_isProgram m p) = (0 : Int32)) from hc5), if_neg (show ¬ ((fm_in law (0 : Int32) (6 : Int32)) = (0 : Int32)) from hc15), if_neg (show ¬ (law = (2 : Int32)) from hc20), if_pos (show oth = (-1 : Int32) from hc36), if_neg (show ¬ ((fm_isSpan x y (2000 : Int32)) = (0 : Int32)) from hc49)]
            rw [e]
            try dsimp only
            exact ⟨rfl, rfl⟩
        · skip
          refine pj_J.go (oX4_least G) 1 rfl trivial ?_
          refine pj_iret dX4_least_53 rfl ?_
          show _ = _ ∧ _ = _
          have e : fm_least LO m p law oth x y = ((-1 : Int32), m) := by unfold fm_least; rw [if_neg (show ¬ ((fm_isProgram m p) = (0 : Int32)) from hc5), if_neg (show ¬ ((fm_in law (0 : Int32) (6 : Int32)) = (0 : Int32)) from hc15), if_neg (show ¬ (law = (2 : Int32)) from hc20), if_neg (show ¬ (oth = (-1 : Int32)) from hc36)]
          rw [e]
          try dsimp only
          exact ⟨rfl, rfl⟩
def fm_mcap (k : Int32) : Nat := if k = 6 then 4 else 6
theorem fm_mcap_le (k : Int32) : fm_mcap k ≤ 6 := by unfold fm_mcap; split <;> omega
def fm_mdV (LO : sx_M → Int32 × sx_M) (m : sx_M) (at_ was v : Int32) : Int32 × sx_M := if v = was then (0, fm_chooses (fm_chooses m at_ v) at_ was) else (if (LO (fm_chooses m at_ v)).1 = 9999999 then 1 else 0, fm_chooses (LO (fm_chooses m at_ v)).2 at_ was)
def fm_mdW (m : sx_M) (at_ : Int32) : Int32 := if sx_I m 9 at_.toNatClampNeg = 4 then sx_I m 11 at_.toNatClampNeg else if sx_I m 9 at_.toNatClampNeg = 6 then sx_I m 11 at_.toNatClampNeg else sx_I m 12 at_.toNatClampNeg
theorem lb_X4_mend {G : pj_G} {d : Nat} {c : sx_C} {m : sx_M} {o : Nat → Int64} {D : pj_H} {Q : pj_O → pj_H → Prop} (LO : sx_M → Int32 × sx_M) (p law x y i at_ was : Int32) (hat : vp_in at_ 80) (k : Nat) (hk : k < fm_mcap (sx_I m 9 at_.toNatClampNeg)) (hh : ¬ fm_hasChoice (sx_I m 9 at_.toNatClampNeg) = 0) (cl : ¬ nI k = was → pj_Rt G mX4_leastOf d [.ref 59, .int p, .int law, .int (-1), .int x, .int y] (sx_mk c (fm_chooses m at_ (nI k)) o D) 0 0 (some (.int (LO (fm_chooses m at_ (nI k))).1)) (sx_mk c (LO (fm_chooses m at_ (nI k))).2 o D)) (q : ¬ (fm_mdV LO m at_ was (nI k)).1 = 0 → Q (.inl (some (.int (10 * i + nI k)))) (sx_mk c (fm_mdV LO m at_ was (nI k)).2 o D)) (kk : (fm_mdV LO m at_ was (nI k)).1 = 0 → pj_J G mX4_mend (d + 1) 125 [some (.ref 59), some (.int p), some (.int law), some (.int x), some (.int y), some (.int i), some (.int at_), some (.int was), some (.int (nI k + 1)), none] [] (sx_mk c (fm_mdV LO m at_ was (nI k)).2 o D) 0 0 Q) : pj_J G mX4_mend (d + 1) 125 [some (.ref 59), some (.int p), some (.int law), some (.int x), some (.int y), some (.int i), some (.int at_), some (.int was), some (.int (nI k)), none] [] (sx_mk c m o D) 0 0 Q := by
  refine pj_J.go (oX4_mend G) 7 rfl ⟨by exact hat, trivial⟩ ?_
  refine pj_J.ite (fun hc136 => ?_) (fun hc136 => ?_)
  · skip
    refine pj_J.go (oX4_mend G) 3 rfl trivial ?_
    refine pj_J.neg (nI_lt_lit (n := 4) (by unfold fm_mcap at hk; rw [if_pos hc136] at hk; exact hk) (by decide)) ?_
    refine pj_J.go (oX4_mend G) 5 rfl ⟨by exact hat, trivial⟩ ?_
    refine pj_J.cal0 kX4_mend_156 (c_X4_hasChoice (m := m) (sx_I m 9 at_.toNatClampNeg)) ⟨_, _, _, rfl, rfl⟩ pj_le0 pj_le0 pj_le0 ?_
    refine pj_J.go (oX4_mend G) 1 rfl trivial ?_
    refine pj_J.neg (hh) ?_
    refine pj_J.go (oX4_mend G) 3 rfl trivial ?_
    refine pj_J.cal0 kX4_mend_167 (c_X4_chooses (m := m) at_ (nI k) hat) ⟨_, _, _, rfl, rfl⟩ pj_le0 pj_le0 pj_le0 ?_
    refine pj_J.go (oX4_mend G) 3 rfl trivial ?_
    refine pj_J.ite (fun hc174 => ?_) (fun hc174 => ?_)
    · skip
      refine pj_J.go (oX4_mend G) 5 rfl trivial ?_
      refine pj_J.cal0 kX4_mend_205 (c_X4_chooses (m := (fm_chooses m at_ (nI k))) at_ was hat) ⟨_, _, _, rfl, rfl⟩ pj_le0 pj_le0 pj_le0 ?_
      refine pj_J.go (oX4_mend G) 2 rfl trivial ?_
      refine pj_J.pos (by decide) ?_
      refine pj_J.go (oX4_mend G) 2 rfl trivial ?_
      have e : fm_mdV LO m at_ was (nI k) = (0, (fm_chooses (fm_chooses m at_ (nI k)) at_ was)) := by unfold fm_mdV; rw [if_pos (show (nI k) = was from hc174)]
      rw [e] at q kk
      exact pj_J.drp (kk rfl) ⟨rfl, rfl, rfl, rfl, rfl, rfl, rfl, rfl, rfl, trivial⟩
    · skip
      refine pj_J.go (oX4_mend G) 6 rfl trivial ?_
      refine pj_J.cal0 kX4_mend_184 (cl hc174) ⟨_, _, _, rfl, rfl⟩ pj_le0 pj_le0 pj_le0 ?_
      refine pj_J.go (oX4_mend G) 2 rfl trivial ?_
      refine pj_J.ite (fun hc190 => ?_) (fun hc190 => ?_)
      · skip
        refine pj_J.go (oX4_mend G) 6 rfl trivial ?_
        refine pj_J.cal0 kX4_mend_205 (c_X4_chooses (m := ((LO (fm_chooses m at_ (nI k))).2)) at_ was hat) ⟨_, _, _, rfl, rfl⟩ pj_le0 pj_le0 pj_le0 ?_
        refine pj_J.go (oX4_mend G) 2 rfl trivial ?_
        refine pj_J.neg (by decide) ?_
        refine pj_J.go (oX4_mend G) 5 rfl trivial ?_
        have e : fm_mdV LO m at_ was (nI k) = (1, (fm_chooses ((LO (fm_chooses m at_ (nI k))).2) at_ was)) := by unfold fm_mdV; rw [if_neg (show ¬ ((nI k) = was) from hc174), if_pos (show (LO (fm_chooses m at_ (nI k))).1 = (9999999 : Int32) from hc190)]
        rw [e] at q kk
        exact pj_iret dX4_mend_221 rfl (q (show ¬ (1 : Int32) = 0 by decide))
      · skip
        refine pj_J.go (oX4_mend G) 5 rfl trivial ?_
        refine pj_J.cal0 kX4_mend_205 (c_X4_chooses (m := ((LO (fm_chooses m at_ (nI k))).2)) at_ was hat) ⟨_, _, _, rfl, rfl⟩ pj_le0 pj_le0 pj_le0 ?_
        refine pj_J.go (oX4_mend G) 2 rfl trivial ?_
        refine pj_J.pos (by decide) ?_
        refine pj_J.go (oX4_mend G) 2 rfl trivial ?_
        have e : fm_mdV LO m at_ was (nI k) = (0, (fm_chooses ((LO (fm_chooses m at_ (nI k))).2) at_ was)) := by unfold fm_mdV; rw [if_neg (show ¬ ((nI k) = was) from hc174), if_neg (show ¬ ((LO (fm_chooses m at_ (nI k))).1 = (9999999 : Int32)) from hc190)]
        rw [e] at q kk
        exact pj_J.drp (kk rfl) ⟨rfl, rfl, rfl, rfl, rfl, rfl, rfl, rfl, rfl, trivial⟩
  · skip
    refine pj_J.go (oX4_mend G) 2 rfl trivial ?_
    refine pj_J.neg (nI_lt_lit (n := 6) (by unfold fm_mcap at hk; rw [if_neg hc136] at hk; exact hk) (by decide)) ?_
    refine pj_J.go (oX4_mend G) 5 rfl ⟨by exact hat, trivial⟩ ?_
    refine pj_J.cal0 kX4_mend_156 (c_X4_hasChoice (m := m) (sx_I m 9 at_.toNatClampNeg)) ⟨_, _, _, rfl, rfl⟩ pj_le0 pj_le0 pj_le0 ?_
    refine pj_J.go (oX4_mend G) 1 rfl trivial ?_
    refine pj_J.neg (hh) ?_
    refine pj_J.go (oX4_mend G) 3 rfl trivial ?_
    refine pj_J.cal0 kX4_mend_167 (c_X4_chooses (m := m) at_ (nI k) hat) ⟨_, _, _, rfl, rfl⟩ pj_le0 pj_le0 pj_le0 ?_
    refine pj_J.go (oX4_mend G) 3 rfl trivial ?_
    refine pj_J.ite (fun hc174 => ?_) (fun hc174 => ?_)
    · skip
      refine pj_J.go (oX4_mend G) 5 rfl trivial ?_
      refine pj_J.cal0 kX4_mend_205 (c_X4_chooses (m := (fm_chooses m at_ (nI k))) at_ was hat) ⟨_, _, _, rfl, rfl⟩ pj_le0 pj_le0 pj_le0 ?_
      refine pj_J.go (oX4_mend G) 2 rfl trivial ?_
      refine pj_J.pos (by decide) ?_
      refine pj_J.go (oX4_mend G) 2 rfl trivial ?_
      have e : fm_mdV LO m at_ was (nI k) = (0, (fm_chooses (fm_chooses m at_ (nI k)) at_ was)) := by unfold fm_mdV; rw [if_pos (show (nI k) = was from hc174)]
      rw [e] at q kk
      exact pj_J.drp (kk rfl) ⟨rfl, rfl, rfl, rfl, rfl, rfl, rfl, rfl, rfl, trivial⟩
    · skip
      refine pj_J.go (oX4_mend G) 6 rfl trivial ?_
      refine pj_J.cal0 kX4_mend_184 (cl hc174) ⟨_, _, _, rfl, rfl⟩ pj_le0 pj_le0 pj_le0 ?_
      refine pj_J.go (oX4_mend G) 2 rfl trivial ?_
      refine pj_J.ite (fun hc190 => ?_) (fun hc190 => ?_)
      · skip
        refine pj_J.go (oX4_mend G) 6 rfl trivial ?_
        refine pj_J.cal0 kX4_mend_205 (c_X4_chooses (m := ((LO (fm_chooses m at_ (nI k))).2)) at_ was hat) ⟨_, _, _, rfl, rfl⟩ pj_le0 pj_le0 pj_le0 ?_
        refine pj_J.go (oX4_mend G) 2 rfl trivial ?_
        refine pj_J.neg (by decide) ?_
        refine pj_J.go (oX4_mend G) 5 rfl trivial ?_
        have e : fm_mdV LO m at_ was (nI k) = (1, (fm_chooses ((LO (fm_chooses m at_ (nI k))).2) at_ was)) := by unfold fm_mdV; rw [if_neg (show ¬ ((nI k) = was) from hc174), if_pos (show (LO (fm_chooses m at_ (nI k))).1 = (9999999 : Int32) from hc190)]
        rw [e] at q kk
        exact pj_iret dX4_mend_221 rfl (q (show ¬ (1 : Int32) = 0 by decide))
      · skip
        refine pj_J.go (oX4_mend G) 5 rfl trivial ?_
        refine pj_J.cal0 kX4_mend_205 (c_X4_chooses (m := ((LO (fm_chooses m at_ (nI k))).2)) at_ was hat) ⟨_, _, _, rfl, rfl⟩ pj_le0 pj_le0 pj_le0 ?_
        refine pj_J.go (oX4_mend G) 2 rfl trivial ?_
        refine pj_J.pos (by decide) ?_
        refine pj_J.go (oX4_mend G) 2 rfl trivial ?_
        have e : fm_mdV LO m at_ was (nI k) = (0, (fm_chooses ((LO (fm_chooses m at_ (nI k))).2) at_ was)) := by unfold fm_mdV; rw [if_neg (show ¬ ((nI k) = was) from hc174), if_neg (show ¬ ((LO (fm_chooses m at_ (nI k))).1 = (9999999 : Int32)) from hc190)]
        rw [e] at q kk
        exact pj_J.drp (kk rfl) ⟨rfl, rfl, rfl, rfl, rfl, rfl, rfl, rfl, rfl, trivial⟩
theorem lz_X4_mendI {G : pj_G} {d : Nat} {c : sx_C} {m : sx_M} {o : Nat → Int64} {D : pj_H} {Q : pj_O → pj_H → Prop} (p law x y i at_ was : Int32) (hat : vp_in at_ 80) (k : Nat) (hk6 : k ≤ 6) (hx : ¬ k < fm_mcap (sx_I m 9 at_.toNatClampNeg) ∨ fm_hasChoice (sx_I m 9 at_.toNatClampNeg) = 0) (kk : pj_J G mX4_mend (d + 1) 60 [some (.ref 59), some (.int p), some (.int law), some (.int x), some (.int y), some (.int (i + 1)), none, none, none, none] [] (sx_mk c m o D) 0 0 Q) : pj_J G mX4_mend (d + 1) 125 [some (.ref 59), some (.int p), some (.int law), some (.int x), some (.int y), some (.int i), some (.int at_), some (.int was), some (.int (nI k)), none] [] (sx_mk c m o D) 0 0 Q := by
  refine pj_J.go (oX4_mend G) 7 rfl ⟨by exact hat, trivial⟩ ?_
  refine pj_J.ite (fun hc136 => ?_) (fun hc136 => ?_)
  · skip
    refine pj_J.go (oX4_mend G) 3 rfl trivial ?_
    refine pj_J.ite (fun hc145 => ?_) (fun hc145 => ?_)
    · skip
      refine pj_J.go (oX4_mend G) 2 rfl trivial ?_
      exact pj_J.drp kk ⟨rfl, rfl, rfl, rfl, rfl, rfl, trivial⟩
    · skip
      refine pj_J.go (oX4_mend G) 5 rfl ⟨by exact hat, trivial⟩ ?_
      refine pj_J.cal0 kX4_mend_156 (c_X4_hasChoice (m := m) (sx_I m 9 at_.toNatClampNeg)) ⟨_, _, _, rfl, rfl⟩ pj_le0 pj_le0 pj_le0 ?_
      refine pj_J.go (oX4_mend G) 1 rfl trivial ?_
      refine pj_J.ite (fun hc159 => ?_) (fun hc159 => ?_)
      · skip
        refine pj_J.go (oX4_mend G) 2 rfl trivial ?_
        exact pj_J.drp kk ⟨rfl, rfl, rfl, rfl, rfl, rfl, trivial⟩
      · skip
        exfalso
        rcases hx with hx | hx
        · apply hx
          unfold fm_mcap
          rw [if_pos hc136]
          exact Nat.lt_of_not_le (fun q => hc145 (nI_ge_lit q (by omega)))
        · exact hc159 hx
  · skip
    refine pj_J.go (oX4_mend G) 2 rfl trivial ?_
    refine pj_J.ite (fun hc145 => ?_) (fun hc145 => ?_)
    · skip
      refine pj_J.go (oX4_mend G) 2 rfl trivial ?_
      exact pj_J.drp kk ⟨rfl, rfl, rfl, rfl, rfl, rfl, trivial⟩
    · skip
      refine pj_J.go (oX4_mend G) 5 rfl ⟨by exact hat, trivial⟩ ?_
      refine pj_J.cal0 kX4_mend_156 (c_X4_hasChoice (m := m) (sx_I m 9 at_.toNatClampNeg)) ⟨_, _, _, rfl, rfl⟩ pj_le0 pj_le0 pj_le0 ?_
      refine pj_J.go (oX4_mend G) 1 rfl trivial ?_
      refine pj_J.ite (fun hc159 => ?_) (fun hc159 => ?_)
      · skip
        refine pj_J.go (oX4_mend G) 2 rfl trivial ?_
        exact pj_J.drp kk ⟨rfl, rfl, rfl, rfl, rfl, rfl, trivial⟩
      · skip
        exfalso
        rcases hx with hx | hx
        · apply hx
          unfold fm_mcap
          rw [if_neg hc136]
          exact Nat.lt_of_not_le (fun q => hc145 (nI_ge_lit q (by omega)))
        · exact hc159 hx
theorem lb_X4_mendO {G : pj_G} {d : Nat} {c : sx_C} {m : sx_M} {o : Nat → Int64} {D : pj_H} {Q : pj_O → pj_H → Prop} (p law x y : Int32) (hp : vp_in p 4) (n k : Nat) (hn : sx_I m 8 p.toNatClampNeg = nI n) (hn20 : n ≤ 20) (hk : k < n) (kk : pj_J G mX4_mend (d + 1) 125 [some (.ref 59), some (.int p), some (.int law), some (.int x), some (.int y), some (.int (nI k)), some (.int (20 * p + nI k)), some (.int (fm_mdW m (20 * p + nI k))), some (.int (nI 0)), none] [] (sx_mk c m o D) 0 0 Q) : pj_J G mX4_mend (d + 1) 60 [some (.ref 59), some (.int p), some (.int law), some (.int x), some (.int y), some (.int (nI k)), none, none, none, none] [] (sx_mk c m o D) 0 0 Q := by
  refine pj_J.go (oX4_mend G) 6 rfl ⟨by exact hp, trivial⟩ ?_
  refine pj_J.neg (by rw [hn]; exact nI_lt_lit hk (by omega)) ?_
  refine pj_J.go (oX4_mend G) 12 rfl ⟨by exact vp_row (p := 4) (q := 20) hp (vp_in_lit (by omega)) (by decide), trivial⟩ ?_
  refine pj_J.ite (fun hc88 => ?_) (fun hc88 => ?_)
  · skip
    refine pj_J.go (oX4_mend G) 8 rfl ⟨by exact vp_row (p := 4) (q := 20) hp (vp_in_lit (by omega)) (by decide), trivial⟩ ?_
    unfold fm_mdW at kk
    rw [if_pos (show (sx_I m 9 (((20 : Int32) * p) + (nI k)).toNatClampNeg) = (4 : Int32) from hc88)] at kk
    exact kk
  · skip
    refine pj_J.go (oX4_mend G) 6 rfl ⟨by exact vp_row (p := 4) (q := 20) hp (vp_in_lit (by omega)) (by decide), trivial⟩ ?_
    refine pj_J.ite (fun hc100 => ?_) (fun hc100 => ?_)
    · skip
      refine pj_J.go (oX4_mend G) 8 rfl ⟨by exact vp_row (p := 4) (q := 20) hp (vp_in_lit (by omega)) (by decide), trivial⟩ ?_
      unfold fm_mdW at kk
      rw [if_neg (show ¬ ((sx_I m 9 (((20 : Int32) * p) + (nI k)).toNatClampNeg) = (4 : Int32)) from hc88), if_pos (show (sx_I m 9 (((20 : Int32) * p) + (nI k)).toNatClampNeg) = (6 : Int32) from hc100)] at kk
      exact kk
    · skip
      refine pj_J.go (oX4_mend G) 7 rfl ⟨by exact vp_row (p := 4) (q := 20) hp (vp_in_lit (by omega)) (by decide), trivial⟩ ?_
      unfold fm_mdW at kk
      rw [if_neg (show ¬ ((sx_I m 9 (((20 : Int32) * p) + (nI k)).toNatClampNeg) = (4 : Int32)) from hc88), if_neg (show ¬ ((sx_I m 9 (((20 : Int32) * p) + (nI k)).toNatClampNeg) = (6 : Int32)) from hc100)] at kk
      exact kk
theorem lz_X4_mendO {G : pj_G} {d : Nat} {c : sx_C} {m : sx_M} {o : Nat → Int64} {D : pj_H} {Q : pj_O → pj_H → Prop} (p law x y : Int32) (hp : vp_in p 4) (n : Nat) (hn : sx_I m 8 p.toNatClampNeg = nI n) (hn20 : n ≤ 20) (q : Q (.inl (some (.int (-3)))) (sx_mk c m o D)) : pj_J G mX4_mend (d + 1) 60 [some (.ref 59), some (.int p), some (.int law), some (.int x), some (.int y), some (.int (nI n)), none, none, none, none] [] (sx_mk c m o D) 0 0 Q := by
  refine pj_J.go (oX4_mend G) 6 rfl ⟨by exact hp, trivial⟩ ?_
  refine pj_J.pos (by rw [hn]; exact nI_ge_lit (Nat.le_refl _) (by omega)) ?_
  refine pj_J.go (oX4_mend G) 1 rfl trivial ?_
  exact pj_iret dX4_mend_236 rfl q
def fm_mdI (LO : sx_M → Int32 × sx_M) (i at_ was : Int32) : Nat → Nat → sx_M → Option Int32 × sx_M
  | 0, _, m => (none, m)
  | e + 1, k, m => if (fm_mdV LO m at_ was (nI k)).1 = 0 then fm_mdI LO i at_ was e (k + 1) (fm_mdV LO m at_ was (nI k)).2 else (some (10 * i + nI k), (fm_mdV LO m at_ was (nI k)).2)
def fm_mdN (k : Int32) : Nat := if fm_hasChoice k = 0 then 0 else fm_mcap k
def fm_mdO (LO : sx_M → Int32 × sx_M) (p : Int32) : Nat → Nat → sx_M → Int32 × sx_M
  | 0, _, m => (-3, m)
  | e + 1, k, m => match fm_mdI LO (nI k) (20 * p + nI k) (fm_mdW m (20 * p + nI k)) (fm_mdN (sx_I m 9 (20 * p + nI k : Int32).toNatClampNeg)) 0 m with
    | (none, m1) => fm_mdO LO p e (k + 1) m1
    | (some v, m1) => (v, m1)
theorem lp_X4_mendI {G : pj_G} {d : Nat} {c : sx_C} {o : Nat → Int64} {D : pj_H} {Q : pj_O → pj_H → Prop} (LO : sx_M → Int32 × sx_M) (p law x y was : Int32) (hp : vp_in p 4) (n k : Nat) (hn20 : n ≤ 20) (hk : k < n) (I : sx_M → Prop) (K : Nat → Int32) (hw : vp_in was 6 ∨ fm_hasChoice (K (20 * p + nI k : Int32).toNatClampNeg) = 0) (hI : ∀ m, I m → sx_I m 9 = K ∧ sx_I m 8 p.toNatClampNeg = nI n) (hV : ∀ m k j was, I m → k < n → j < fm_mcap (K (20 * p + nI k : Int32).toNatClampNeg) → ¬ fm_hasChoice (K (20 * p + nI k : Int32).toNatClampNeg) = 0 → vp_in was 6 → (¬ nI j = was → pj_Rt G mX4_leastOf d [.ref 59, .int p, .int law, .int (-1), .int x, .int y] (sx_mk c (fm_chooses m (20 * p + nI k) (nI j)) o D) 0 0 (some (.int (LO (fm_chooses m (20 * p + nI k) (nI j))).1)) (sx_mk c (LO (fm_chooses m (20 * p + nI k) (nI j))).2 o D)) ∧ I (fm_mdV LO m (20 * p + nI k) was (nI j)).2) : ∀ (e j : Nat) (m : sx_M), I m → j + e = fm_mdN (K (20 * p + nI k : Int32).toNatClampNeg) → (∀ v m1, fm_mdI LO (nI k) (20 * p + nI k) was e j m = (some v, m1) → I m1 → Q (.inl (some (.int v))) (sx_mk c m1 o D)) → (∀ m1, fm_mdI LO (nI k) (20 * p + nI k) was e j m = (none, m1) → I m1 → pj_J G mX4_mend (d + 1) 60 [some (.ref 59), some (.int p), some (.int law), some (.int x), some (.int y), some (.int (nI k + 1)), none, none, none, none] [] (sx_mk c m1 o D) 0 0 Q) → pj_J G mX4_mend (d + 1) 125 [some (.ref 59), some (.int p), some (.int law), some (.int x), some (.int y), some (.int (nI k)), some (.int (20 * p + nI k)), some (.int was), some (.int (nI j)), none] [] (sx_mk c m o D) 0 0 Q := by
  intro e
  have hat : vp_in (20 * p + nI k) 80 := vp_row (p := 4) (q := 20) hp (vp_in_lit (by omega)) (by decide)
  have h6 := fm_mcap_le (K (20 * p + nI k : Int32).toNatClampNeg)
  induction e with
  | zero =>
    intro j m hi hj q kk
    have hK := (hI m hi).1
    refine lz_X4_mendI p law x y (nI k) (20 * p + nI k) was hat j ?_ ?_ (kk m rfl hi)
    · unfold fm_mdN at hj
      split at hj <;> omega
    · rw [hK]
      unfold fm_mdN at hj
      split at hj
      · exact Or.inr (by assumption)
      · exact Or.inl (by omega)
  | succ e ih =>
    intro j m hi hj q kk
    have hK := (hI m hi).1
    unfold fm_mdN at hj
    split at hj
    · omega
    · rename_i hh
      obtain ⟨hl, hi2⟩ := hV m k j was hi hk (by omega) hh (hw.resolve_right hh)
      refine lb_X4_mend LO p law x y (nI k) (20 * p + nI k) was hat j (by rw [hK]; omega) (by rw [hK]; exact hh) hl (fun h => ?_) (fun h => ?_)
      · exact q _ _ (by unfold fm_mdI; rw [if_neg h]) hi2
      · rw [nI_add1]
        refine ih (j + 1) _ hi2 (by unfold fm_mdN; rw [if_neg hh]; omega) (fun v m1 hv => q v m1 (by unfold fm_mdI; rw [if_pos h]; exact hv)) (fun m1 hv => kk m1 (by unfold fm_mdI; rw [if_pos h]; exact hv))
theorem lp_X4_mendO {G : pj_G} {d : Nat} {c : sx_C} {o : Nat → Int64} {D : pj_H} {Q : pj_O → pj_H → Prop} (LO : sx_M → Int32 × sx_M) (p law x y : Int32) (hp : vp_in p 4) (n : Nat) (hn20 : n ≤ 20) (I : sx_M → Prop) (K : Nat → Int32) (hW : ∀ m k, I m → k < n → vp_in (fm_mdW m (20 * p + nI k)) 6 ∨ fm_hasChoice (K (20 * p + nI k : Int32).toNatClampNeg) = 0) (hI : ∀ m, I m → sx_I m 9 = K ∧ sx_I m 8 p.toNatClampNeg = nI n) (hV : ∀ m k j was, I m → k < n → j < fm_mcap (K (20 * p + nI k : Int32).toNatClampNeg) → ¬ fm_hasChoice (K (20 * p + nI k : Int32).toNatClampNeg) = 0 → vp_in was 6 → (¬ nI j = was → pj_Rt G mX4_leastOf d [.ref 59, .int p, .int law, .int (-1), .int x, .int y] (sx_mk c (fm_chooses m (20 * p + nI k) (nI j)) o D) 0 0 (some (.int (LO (fm_chooses m (20 * p + nI k) (nI j))).1)) (sx_mk c (LO (fm_chooses m (20 * p + nI k) (nI j))).2 o D)) ∧ I (fm_mdV LO m (20 * p + nI k) was (nI j)).2) : ∀ (e k : Nat) (m : sx_M), I m → k + e = n → Q (.inl (some (.int (fm_mdO LO p e k m).1))) (sx_mk c (fm_mdO LO p e k m).2 o D) → pj_J G mX4_mend (d + 1) 60 [some (.ref 59), some (.int p), some (.int law), some (.int x), some (.int y), some (.int (nI k)), none, none, none, none] [] (sx_mk c m o D) 0 0 Q := by
  intro e
  induction e with
  | zero =>
    intro k m hi hk q
    have : k = n := by omega
    subst this
    exact lz_X4_mendO p law x y hp k (hI m hi).2 hn20 q
  | succ e ih =>
    intro k m hi hk q
    refine lb_X4_mendO p law x y hp n k (hI m hi).2 hn20 (by omega) ?_
    refine lp_X4_mendI LO p law x y _ hp n k hn20 (by omega) I K (hW m k hi (by omega)) hI hV (fm_mdN (K (20 * p + nI k : Int32).toNatClampNeg)) 0 m hi (by omega) (fun v m1 hv hi1 => ?_) (fun m1 hv hi1 => ?_)
    · unfold fm_mdO at q
      rw [(hI m hi).1, hv] at q
      exact q
    · rw [nI_add1]
      refine ih (k + 1) m1 hi1 (by omega) ?_
      unfold fm_mdO at q
      rw [(hI m hi).1, hv] at q
      exact q
def fm_mend (LO : Int32 → Int32 → Int32 → Int32 → sx_M → Int32 × sx_M) (m : sx_M) (p law x y : Int32) : Int32 × sx_M := if fm_isProgram m p = 0 then (-1, m) else if fm_in law 0 6 = 0 then (-1, m) else if law = 2 then (-1, m) else if fm_isSpan x y 300 = 0 then (-1, m) else if (LO p law x y m).1 = 9999999 then (9999999, (LO p law x y m).2) else fm_mdO (LO p law x y) p (sx_I (LO p law x y m).2 8 p.toNatClampNeg).toNatClampNeg 0 (LO p law x y m).2
theorem c_X4_mend {G : pj_G} {d : Nat} {c : sx_C} {m : sx_M} {o : Nat → Int64} {D : pj_H} (p : Int32) (law : Int32) (x : Int32) (y : Int32) (LO : Int32 → Int32 → Int32 → Int32 → sx_M → Int32 × sx_M) (cl : ¬ fm_isProgram m p = 0 → ¬ fm_in law 0 6 = 0 → ¬ law = 2 → ¬ fm_isSpan x y 300 = 0 → pj_Rt G mX4_leastOf (d + 1) [.ref 59, .int p, .int law, .int (-1), .int x, .int y] (sx_mk c m o D) 0 0 (some (.int (LO p law x y m).1)) (sx_mk c (LO p law x y m).2 o D)) (ck : ¬ fm_isProgram m p = 0 → ¬ fm_in law 0 6 = 0 → ¬ law = 2 → ¬ fm_isSpan x y 300 = 0 → ∀ Q : pj_O → pj_H → Prop, Q (.inl (some (.int (fm_mdO (LO p law x y) p (sx_I (LO p law x y m).2 8 p.toNatClampNeg).toNatClampNeg 0 (LO p law x y m).2).1))) (sx_mk c (fm_mdO (LO p law x y) p (sx_I (LO p law x y m).2 8 p.toNatClampNeg).toNatClampNeg 0 (LO p law x y m).2).2 o D) → pj_J G mX4_mend (d + 2) 60 [some (.ref 59), some (.int p), some (.int law), some (.int x), some (.int y), some (.int 0), none, none, none, none] [] (sx_mk c (LO p law x y m).2 o D) 0 0 Q) : pj_Rt G mX4_mend (d + 2) [.ref 59, .int p, .int law, .int x, .int y] (sx_mk c m o D) 0 0 (some (.int ((fm_mend LO m p law x y).1))) (sx_mk c (fm_mend LO m p law x y).2 o D) := by
  refine pj_Cn.start ?_
  refine pj_J.go (oX4_mend G) 2 rfl trivial ?_
  refine pj_J.cal0 kX4_mend_2 (c_X4_isProgram (m := m) p) ⟨_, _, _, rfl, rfl⟩ pj_le0 pj_le0 pj_le0 ?_
  refine pj_J.go (oX4_mend G) 1 rfl trivial ?_
  refine pj_J.ite (fun hc5 => ?_) (fun hc5 => ?_)
  · skip
    refine pj_J.go (oX4_mend G) 1 rfl trivial ?_
    refine pj_iret dX4_mend_36 rfl ?_
    show _ = _ ∧ _ = _
    have e : fm_mend LO m p law x y = ((-1 : Int32), m) := by unfold fm_mend; rw [if_pos (show (fm_isProgram m p) = (0 : Int32) from hc5)]
    rw [e]
    try dsimp only
    exact ⟨rfl, rfl⟩
  · skip
    refine pj_J.go (oX4_mend G) 3 rfl trivial ?_
    refine pj_J.cal0 kX4_mend_12 (c_X4_in law (0 : Int32) (6 : Int32)) trivial pj_le0 pj_le0 pj_le0 ?_
    refine pj_J.go (oX4_mend G) 1 rfl trivial ?_
    refine pj_J.ite (fun hc15 => ?_) (fun hc15 => ?_)
    · skip
      refine pj_J.go (oX4_mend G) 1 rfl trivial ?_
      refine pj_iret dX4_mend_36 rfl ?_
      show _ = _ ∧ _ = _
      have e : fm_mend LO m p law x y = ((-1 : Int32), m) := by unfold fm_mend; rw [if_neg (show ¬ ((fm_isProgram m p) = (0 : Int32)) from hc5), if_pos (show (fm_in law (0 : Int32) (6 : Int32)) = (0 : Int32) from hc15)]
      rw [e]
      try dsimp only
      exact ⟨rfl, rfl⟩
    · skip
      refine pj_J.go (oX4_mend G) 3 rfl trivial ?_
      refine pj_J.ite (fun hc20 => ?_) (fun hc20 => ?_)
      · skip
        refine pj_J.go (oX4_mend G) 1 rfl trivial ?_
        refine pj_iret dX4_mend_36 rfl ?_
        show _ = _ ∧ _ = _
        have e : fm_mend LO m p law x y = ((-1 : Int32), m) := by unfold fm_mend; rw [if_neg (show ¬ ((fm_isProgram m p) = (0 : Int32)) from hc5), if_neg (show ¬ ((fm_in law (0 : Int32) (6 : Int32)) = (0 : Int32)) from hc15), if_pos (show law = (2 : Int32) from hc20)]
        rw [e]
        try dsimp only
        exact ⟨rfl, rfl⟩
      · skip
        refine pj_J.go (oX4_mend G) 3 rfl trivial ?_
        refine pj_J.cal0 kX4_mend_29 (c_X4_isSpan x y (300 : Int32)) trivial pj_le0 pj_le0 pj_le0 ?_
        refine pj_J.go (oX4_mend G) 1 rfl trivial ?_
        refine pj_J.ite (fun hc32 => ?_) (fun hc32 => ?_)
        · skip
          refine pj_J.go (oX4_mend G) 1 rfl trivial ?_
          refine pj_iret dX4_mend_36 rfl ?_
          show _ = _ ∧ _ = _
          have e : fm_mend LO m p law x y = ((-1 : Int32), m) := by unfold fm_mend; rw [if_neg (show ¬ ((fm_isProgram m p) = (0 : Int32)) from hc5), if_neg (show ¬ ((fm_in law (0 : Int32) (6 : Int32)) = (0 : Int32)) from hc15), if_neg (show ¬ (law = (2 : Int32)) from hc20), if_pos (show (fm_isSpan x y (300 : Int32)) = (0 : Int32) from hc32)]
          rw [e]
          try dsimp only
          exact ⟨rfl, rfl⟩
        · skip
          refine pj_J.go (oX4_mend G) 6 rfl trivial ?_
          refine pj_J.cal0 kX4_mend_44 (cl hc5 hc15 hc20 hc32) ⟨_, _, _, rfl, rfl⟩ pj_le0 pj_le0 pj_le0 ?_
          refine pj_J.go (oX4_mend G) 2 rfl trivial ?_
          refine pj_J.ite (fun hc50 => ?_) (fun hc50 => ?_)
          · skip
            refine pj_J.go (oX4_mend G) 1 rfl trivial ?_
            refine pj_iret dX4_mend_56 rfl ?_
            show _ = _ ∧ _ = _
            have e : fm_mend LO m p law x y = ((9999999 : Int32), ((LO p law x y m).2)) := by unfold fm_mend; rw [if_neg (show ¬ ((fm_isProgram m p) = (0 : Int32)) from hc5), if_neg (show ¬ ((fm_in law (0 : Int32) (6 : Int32)) = (0 : Int32)) from hc15), if_neg (show ¬ (law = (2 : Int32)) from hc20), if_neg (show ¬ ((fm_isSpan x y (300 : Int32)) = (0 : Int32)) from hc32), if_pos (show (LO p law x y m).1 = (9999999 : Int32) from hc50)]
            rw [e]
            try dsimp only
            exact ⟨rfl, rfl⟩
          · skip
            refine pj_J.go (oX4_mend G) 2 rfl trivial ?_
            refine ck hc5 hc15 hc20 hc32 _ ?_
            show _ = _ ∧ _ = _
            unfold fm_mend
            rw [if_neg (show ¬ ((fm_isProgram m p) = (0 : Int32)) from hc5), if_neg (show ¬ ((fm_in law (0 : Int32) (6 : Int32)) = (0 : Int32)) from hc15), if_neg (show ¬ (law = (2 : Int32)) from hc20), if_neg (show ¬ ((fm_isSpan x y (300 : Int32)) = (0 : Int32)) from hc32), if_neg (show ¬ ((LO p law x y m).1 = (9999999 : Int32)) from hc50)]
            exact ⟨rfl, rfl⟩
