/-! PennyJudgeModel: acts, weights (by tools/gen_m7.py) -/
set_option maxRecDepth 100000
def fm_showA (m : sx_M) (ix : Nat) (v : Int32) : sx_M := sx_sI m 26 (upd (sx_I m 26) ix (vp_nar .boolean v))
def fm_addsN (m : sx_M) (s t v : Int32) : Int64 := sx_L m 19 (8 * sx_i m 16 + s).toNatClampNeg * sx_L m 20 (8 * sx_i m 16 + t).toNatClampNeg + (if v = 0 then sx_L m 19 (8 * sx_i m 16 + t).toNatClampNeg * sx_L m 20 (8 * sx_i m 16 + s).toNatClampNeg else -(sx_L m 19 (8 * sx_i m 16 + t).toNatClampNeg * sx_L m 20 (8 * sx_i m 16 + s).toNatClampNeg))
def fm_addsD (m : sx_M) (s t : Int32) : Int64 := sx_L m 20 (8 * sx_i m 16 + s).toNatClampNeg * sx_L m 20 (8 * sx_i m 16 + t).toNatClampNeg
def fm_addsH (m : sx_M) (s t : Int32) : Int32 := if sx_I m 26 (8 * sx_i m 16 + s).toNatClampNeg = 0 then (if sx_I m 26 (8 * sx_i m 16 + t).toNatClampNeg = 0 then 0 else 1) else 1
def fm_adds (m : sx_M) (s t v : Int32) : sx_M := if (fm_becomes m s (fm_addsN m s t v) (fm_addsD m s t)).1 = 0 then (fm_becomes m s (fm_addsN m s t v) (fm_addsD m s t)).2 else fm_showA (fm_becomes m s (fm_addsN m s t v) (fm_addsD m s t)).2 (8 * sx_i m 16 + s).toNatClampNeg (fm_addsH m s t)
theorem c_X4_adds {G : pj_G} {d : Nat} {c : sx_C} {m : sx_M} {o : Nat → Int64} {D : pj_H} (s t v : Int32) (hs : vp_in (8 * sx_i m 16 + s) 16) (ht : vp_in (8 * sx_i m 16 + t) 16) (hn : -9223372036854775807 ≤ fm_addsN m s t v) (he : 0 < fm_addsD m s t) : pj_Rt G mX4_adds (d + 2) [.ref 59, .int s, .int t, .int v] (sx_mk c m o D) 0 0 none (sx_mk c (fm_adds m s t v) o D) := by
  refine pj_Cn.start ?_
  refine pj_J.go (oX4_adds G) 19 rfl ⟨by first | exact hs | exact ht, trivial⟩ ?_
  refine pj_J.ite (fun hc29 => ?_) (fun hc29 => ?_)
  · skip
    refine pj_J.go (oX4_adds G) 5 rfl ⟨by first | exact hs | exact ht, trivial⟩ ?_
    refine pj_J.ite (fun hc39 => ?_) (fun hc39 => ?_)
    · skip
      refine pj_J.go (oX4_adds G) 25 rfl ⟨by first | exact hs | exact ht, by first | exact hs | exact ht, by first | exact hs | exact ht, by first | exact hs | exact ht, trivial⟩ ?_
      refine pj_J.ite (fun hc84 => ?_) (fun hc84 => ?_)
      · skip
        refine pj_J.go (oX4_adds G) 12 rfl ⟨by first | exact hs | exact ht, by first | exact hs | exact ht, trivial⟩ ?_
        refine pj_J.cal0 kX4_adds_111 (c_X4_becomes _ _ _ hs (by unfold fm_addsN at hn; first | (rw [if_pos hc84] at hn; exact hn) | (rw [if_neg hc84] at hn; exact hn)) he) ⟨_, _, _, rfl, rfl⟩ pj_le0 pj_le0 pj_le0 ?_
        refine pj_J.go (oX4_adds G) 1 rfl trivial ?_
        refine pj_J.ite (fun hc114 => ?_) (fun hc114 => ?_)
        · skip
          refine pj_vret dX4_adds_126 rfl ?_
          show _ = _ ∧ _ = _
          unfold fm_adds fm_addsN fm_addsD fm_addsH
          rw [if_pos hc29, if_pos hc39, if_pos hc84, if_pos hc114]
          exact ⟨rfl, rfl⟩
        · skip
          refine pj_J.go (oX4_adds G) 5 rfl ⟨by first | exact hs | exact ht, trivial⟩ ?_
          refine pj_vret dX4_adds_126 rfl ?_
          show _ = _ ∧ _ = _
          unfold fm_adds fm_addsN fm_addsD fm_addsH
          rw [if_pos hc29, if_pos hc39, if_pos hc84, if_neg hc114]
          exact ⟨rfl, rfl⟩
      · skip
        refine pj_J.go (oX4_adds G) 12 rfl ⟨by first | exact hs | exact ht, by first | exact hs | exact ht, trivial⟩ ?_
        refine pj_J.cal0 kX4_adds_111 (c_X4_becomes _ _ _ hs (by unfold fm_addsN at hn; first | (rw [if_pos hc84] at hn; exact hn) | (rw [if_neg hc84] at hn; exact hn)) he) ⟨_, _, _, rfl, rfl⟩ pj_le0 pj_le0 pj_le0 ?_
        refine pj_J.go (oX4_adds G) 1 rfl trivial ?_
        refine pj_J.ite (fun hc114 => ?_) (fun hc114 => ?_)
        · skip
          refine pj_vret dX4_adds_126 rfl ?_
          show _ = _ ∧ _ = _
          unfold fm_adds fm_addsN fm_addsD fm_addsH
          rw [if_pos hc29, if_pos hc39, if_neg hc84, if_pos hc114]
          exact ⟨rfl, rfl⟩
        · skip
          refine pj_J.go (oX4_adds G) 5 rfl ⟨by first | exact hs | exact ht, trivial⟩ ?_
          refine pj_vret dX4_adds_126 rfl ?_
          show _ = _ ∧ _ = _
          unfold fm_adds fm_addsN fm_addsD fm_addsH
          rw [if_pos hc29, if_pos hc39, if_neg hc84, if_neg hc114]
          exact ⟨rfl, rfl⟩
    · skip
      refine pj_J.go (oX4_adds G) 26 rfl ⟨by first | exact hs | exact ht, by first | exact hs | exact ht, by first | exact hs | exact ht, by first | exact hs | exact ht, trivial⟩ ?_
      refine pj_J.ite (fun hc84 => ?_) (fun hc84 => ?_)
      · skip
        refine pj_J.go (oX4_adds G) 12 rfl ⟨by first | exact hs | exact ht, by first | exact hs | exact ht, trivial⟩ ?_
        refine pj_J.cal0 kX4_adds_111 (c_X4_becomes _ _ _ hs (by unfold fm_addsN at hn; first | (rw [if_pos hc84] at hn; exact hn) | (rw [if_neg hc84] at hn; exact hn)) he) ⟨_, _, _, rfl, rfl⟩ pj_le0 pj_le0 pj_le0 ?_
        refine pj_J.go (oX4_adds G) 1 rfl trivial ?_
        refine pj_J.ite (fun hc114 => ?_) (fun hc114 => ?_)
        · skip
          refine pj_vret dX4_adds_126 rfl ?_
          show _ = _ ∧ _ = _
          unfold fm_adds fm_addsN fm_addsD fm_addsH
          rw [if_pos hc29, if_neg hc39, if_pos hc84, if_pos hc114]
          exact ⟨rfl, rfl⟩
        · skip
          refine pj_J.go (oX4_adds G) 5 rfl ⟨by first | exact hs | exact ht, trivial⟩ ?_
          refine pj_vret dX4_adds_126 rfl ?_
          show _ = _ ∧ _ = _
          unfold fm_adds fm_addsN fm_addsD fm_addsH
          rw [if_pos hc29, if_neg hc39, if_pos hc84, if_neg hc114]
          exact ⟨rfl, rfl⟩
      · skip
        refine pj_J.go (oX4_adds G) 12 rfl ⟨by first | exact hs | exact ht, by first | exact hs | exact ht, trivial⟩ ?_
        refine pj_J.cal0 kX4_adds_111 (c_X4_becomes _ _ _ hs (by unfold fm_addsN at hn; first | (rw [if_pos hc84] at hn; exact hn) | (rw [if_neg hc84] at hn; exact hn)) he) ⟨_, _, _, rfl, rfl⟩ pj_le0 pj_le0 pj_le0 ?_
        refine pj_J.go (oX4_adds G) 1 rfl trivial ?_
        refine pj_J.ite (fun hc114 => ?_) (fun hc114 => ?_)
        · skip
          refine pj_vret dX4_adds_126 rfl ?_
          show _ = _ ∧ _ = _
          unfold fm_adds fm_addsN fm_addsD fm_addsH
          rw [if_pos hc29, if_neg hc39, if_neg hc84, if_pos hc114]
          exact ⟨rfl, rfl⟩
        · skip
          refine pj_J.go (oX4_adds G) 5 rfl ⟨by first | exact hs | exact ht, trivial⟩ ?_
          refine pj_vret dX4_adds_126 rfl ?_
          show _ = _ ∧ _ = _
          unfold fm_adds fm_addsN fm_addsD fm_addsH
          rw [if_pos hc29, if_neg hc39, if_neg hc84, if_neg hc114]
          exact ⟨rfl, rfl⟩
  · skip
    refine pj_J.go (oX4_adds G) 26 rfl ⟨by first | exact hs | exact ht, by first | exact hs | exact ht, by first | exact hs | exact ht, by first | exact hs | exact ht, trivial⟩ ?_
    refine pj_J.ite (fun hc84 => ?_) (fun hc84 => ?_)
    · skip
      refine pj_J.go (oX4_adds G) 12 rfl ⟨by first | exact hs | exact ht, by first | exact hs | exact ht, trivial⟩ ?_
      refine pj_J.cal0 kX4_adds_111 (c_X4_becomes _ _ _ hs (by unfold fm_addsN at hn; first | (rw [if_pos hc84] at hn; exact hn) | (rw [if_neg hc84] at hn; exact hn)) he) ⟨_, _, _, rfl, rfl⟩ pj_le0 pj_le0 pj_le0 ?_
      refine pj_J.go (oX4_adds G) 1 rfl trivial ?_
      refine pj_J.ite (fun hc114 => ?_) (fun hc114 => ?_)
      · skip
        refine pj_vret dX4_adds_126 rfl ?_
        show _ = _ ∧ _ = _
        unfold fm_adds fm_addsN fm_addsD fm_addsH
        rw [if_neg hc29, if_pos hc84, if_pos hc114]
        exact ⟨rfl, rfl⟩
      · skip
        refine pj_J.go (oX4_adds G) 5 rfl ⟨by first | exact hs | exact ht, trivial⟩ ?_
        refine pj_vret dX4_adds_126 rfl ?_
        show _ = _ ∧ _ = _
        unfold fm_adds fm_addsN fm_addsD fm_addsH
        rw [if_neg hc29, if_pos hc84, if_neg hc114]
        exact ⟨rfl, rfl⟩
    · skip
      refine pj_J.go (oX4_adds G) 12 rfl ⟨by first | exact hs | exact ht, by first | exact hs | exact ht, trivial⟩ ?_
      refine pj_J.cal0 kX4_adds_111 (c_X4_becomes _ _ _ hs (by unfold fm_addsN at hn; first | (rw [if_pos hc84] at hn; exact hn) | (rw [if_neg hc84] at hn; exact hn)) he) ⟨_, _, _, rfl, rfl⟩ pj_le0 pj_le0 pj_le0 ?_
      refine pj_J.go (oX4_adds G) 1 rfl trivial ?_
      refine pj_J.ite (fun hc114 => ?_) (fun hc114 => ?_)
      · skip
        refine pj_vret dX4_adds_126 rfl ?_
        show _ = _ ∧ _ = _
        unfold fm_adds fm_addsN fm_addsD fm_addsH
        rw [if_neg hc29, if_neg hc84, if_pos hc114]
        exact ⟨rfl, rfl⟩
      · skip
        refine pj_J.go (oX4_adds G) 5 rfl ⟨by first | exact hs | exact ht, trivial⟩ ?_
        refine pj_vret dX4_adds_126 rfl ?_
        show _ = _ ∧ _ = _
        unfold fm_adds fm_addsN fm_addsD fm_addsH
        rw [if_neg hc29, if_neg hc84, if_neg hc114]
        exact ⟨rfl, rfl⟩
def fm_crN (m : sx_M) (s p : Int32) : Int64 := sx_L m 24 (4 * sx_i m 16 + p).toNatClampNeg * sx_L m 20 (8 * sx_i m 16 + s).toNatClampNeg + sx_L m 19 (8 * sx_i m 16 + s).toNatClampNeg * sx_L m 25 (4 * sx_i m 16 + p).toNatClampNeg
def fm_crD (m : sx_M) (s p : Int32) : Int64 := sx_L m 25 (4 * sx_i m 16 + p).toNatClampNeg * sx_L m 20 (8 * sx_i m 16 + s).toNatClampNeg
def fm_crB (m : sx_M) (s p : Int32) : Int32 × sx_M := fm_becomes m s (fm_crN m s p) (fm_crD m s p)
def fm_crL (m : sx_M) (s p : Int32) : Int64 := sx_L (fm_crB m s p).2 20 (8 * sx_i m 16 + s).toNatClampNeg
def fm_crW (m : sx_M) (s p : Int32) : Int64 := fm_floor (sx_L (fm_crB m s p).2 19 (8 * sx_i m 16 + s).toNatClampNeg) (fm_crL m s p)
def fm_crR (m : sx_M) (s p : Int32) : Int64 := sx_L (fm_crB m s p).2 19 (8 * sx_i m 16 + s).toNatClampNeg - fm_crW m s p * fm_crL m s p
def fm_crE (m : sx_M) (s p : Int32) : Int32 × sx_M := fm_becomes (fm_crB m s p).2 s (fm_crW m s p) 1
def fm_crZ (m : sx_M) (s p : Int32) : sx_M := sx_sL (sx_sL (fm_crE m s p).2 24 (vp_updL (sx_L (fm_crE m s p).2 24) (4 * sx_i m 16 + p).toNatClampNeg (fm_crR m s p / fm_g (fm_crR m s p) (fm_crL m s p)))) 25 (vp_updL (sx_L (fm_crE m s p).2 25) (4 * sx_i m 16 + p).toNatClampNeg (fm_crL m s p / fm_g (fm_crR m s p) (fm_crL m s p)))
def fm_crV (m : sx_M) (s p : Int32) : sx_M := sx_sL (sx_sL (fm_crE m s p).2 19 (vp_updL (sx_L (fm_crE m s p).2 19) (8 * sx_i m 16 + s).toNatClampNeg (sx_L m 19 (8 * sx_i m 16 + s).toNatClampNeg))) 20 (vp_updL (sx_L (fm_crE m s p).2 20) (8 * sx_i m 16 + s).toNatClampNeg (sx_L m 20 (8 * sx_i m 16 + s).toNatClampNeg))
def fm_carries (m : sx_M) (s p : Int32) : sx_M := if (fm_crB m s p).1 = 0 then (fm_crB m s p).2 else if (fm_crE m s p).1 = 0 then fm_crV m s p else fm_crZ m s p
theorem c_X4_carries {G : pj_G} {d : Nat} {c : sx_C} {m : sx_M} {o : Nat → Int64} {D : pj_H} (s p : Int32) (hs : vp_in (8 * sx_i m 16 + s) 16) (hp : vp_in (4 * sx_i m 16 + p) 8) (hn : -9223372036854775807 ≤ fm_crN m s p) (he : 0 < fm_crD m s p) (hl : 0 < fm_crL m s p) (hw : -9223372036854775807 ≤ fm_crW m s p) (hr : -9223372036854775807 ≤ fm_crR m s p) : pj_Rt G mX4_carries (d + 3) [.ref 59, .int s, .int p] (sx_mk c m o D) 0 0 none (sx_mk c (fm_carries m s p) o D) := by
  refine pj_Cn.start ?_
  refine pj_J.go (oX4_carries G) 58 rfl ⟨by first | exact hs | exact hp, by first | exact hs | exact hp, by first | exact hs | exact hp, by first | exact hs | exact hp, by first | exact hs | exact hp, by first | exact hs | exact hp, by first | exact hs | exact hp, by first | exact hs | exact hp, trivial⟩ ?_
  refine pj_J.cal0 kX4_carries_89 (show pj_Rt G mX4_becomes _ _ _ 0 0 (some (.int (fm_crB m s p).1)) (sx_mk c (fm_crB m s p).2 o D) from c_X4_becomes (m := m) s (fm_crN m s p) (fm_crD m s p) hs hn he) ⟨_, _, _, rfl, rfl⟩ pj_le0 pj_le0 pj_le0 ?_
  refine pj_J.go (oX4_carries G) 1 rfl trivial ?_
  refine pj_J.ite (fun hc92 => ?_) (fun hc92 => ?_)
  · skip
    refine pj_vret dX4_carries_95 rfl ?_
    show _ = _ ∧ _ = _
    unfold fm_carries
    rw [if_pos hc92]
    exact ⟨rfl, rfl⟩
  · skip
    refine pj_J.go (oX4_carries G) 8 rfl ⟨by first | exact hs | exact hp, by first | exact hs | exact hp, trivial⟩ ?_
    refine pj_J.cal0 kX4_carries_108 (show pj_Rt G mX4_floor _ _ _ 0 0 (some (.long (fm_crW m s p))) _ from c_X4_floor _ (fm_crL m s p) (fun q => by rw [q] at hl; exact absurd hl (by decide))) trivial pj_le0 pj_le0 pj_le0 ?_
    refine pj_J.go (oX4_carries G) 21 rfl ⟨by first | exact hs | exact hp, by first | exact hs | exact hp, by first | exact hs | exact hp, trivial⟩ ?_
    refine pj_J.cal0 kX4_carries_143 (show pj_Rt G mX4_becomesWhole _ _ _ 0 0 (some (.int (fm_crE m s p).1)) (sx_mk c (fm_crE m s p).2 o D) from c_X4_becomesWhole (m := (fm_crB m s p).2) s (fm_crW m s p) (by unfold fm_crB; rw [fm_becomes_i (by decide)]; exact hs) hw) ⟨_, _, _, rfl, rfl⟩ pj_le0 pj_le0 pj_le0 ?_
    refine pj_J.go (oX4_carries G) 1 rfl trivial ?_
    refine pj_J.ite (fun hc146 => ?_) (fun hc146 => ?_)
    · skip
      refine pj_J.go (oX4_carries G) 10 rfl ⟨by first | exact hs | exact hp, by first | exact hs | exact hp, trivial⟩ ?_
      refine pj_vret dX4_carries_165 rfl ?_
      show _ = _ ∧ _ = _
      unfold fm_carries
      rw [if_neg hc92, if_pos hc146]
      exact ⟨rfl, rfl⟩
    · skip
      refine pj_J.go (oX4_carries G) 2 rfl trivial ?_
      refine pj_J.cal0 kX4_carries_170 (c_X4_commonG (fm_crR m s p) (fm_crL m s p) hr hl) trivial pj_le0 pj_le0 pj_le0 ?_
      refine pj_J.go (oX4_carries G) 15 rfl ⟨by exact fm_g_ne hl hr, by first | exact hs | exact hp, by exact fm_g_ne hl hr, by first | exact hs | exact hp, trivial⟩ ?_
      refine pj_vret dX4_carries_199 rfl ?_
      show _ = _ ∧ _ = _
      unfold fm_carries
      rw [if_neg hc92, if_neg hc146]
      exact ⟨rfl, rfl⟩
def fm_wsum (m : sx_M) (set : Int32) (n : Nat) : Int32 := it_up (fun k (s : Int32) => s + sx_I m 6 (8 * set + nI k).toNatClampNeg) n 0 0
def fm_isEven (m : sx_M) (set : Int32) : Int32 := if fm_wsum m set (sx_I m 5 set.toNatClampNeg).toNatClampNeg = 0 then 1 else 0
theorem fm_isEven_01 (m : sx_M) (set : Int32) : fm_isEven m set = 0 ∨ fm_isEven m set = 1 := by unfold fm_isEven; split <;> simp
def fm_weighed (m : sx_M) (set i : Int32) : Int64 := if fm_isEven m set = 0 then (sx_I m 6 (8 * set + i).toNatClampNeg).toInt64 else 1
def fm_partsOf (m : sx_M) (set : Int32) : Int32 := if fm_isEven m set = 0 then sx_I m 5 set.toNatClampNeg else 2
def fm_allW (m : sx_M) (set : Int32) : Int64 := it_up (fun k (s : Int64) => s + fm_weighed m set (nI k)) (fm_partsOf m set).toNatClampNeg 0 0
theorem c_X4_isEven {G : pj_G} {d : Nat} {c : sx_C} {m : sx_M} {o : Nat → Int64} {D : pj_H} (set : Int32) (hset : vp_in set 4) (hw : vp_in (sx_I m 5 set.toNatClampNeg) 9) : pj_Rt G mX4_isEven (d) [.ref 59, .int set] (sx_mk c m o D) 0 0 (some (.int (fm_isEven m set))) (sx_mk c m o D) := by
  refine pj_Cn.start ?_
  obtain ⟨n, hn, e⟩ := vp_in_of hw (by decide)
  have ep : (sx_I m 5 set.toNatClampNeg).toNatClampNeg = n := by rw [e, nI_clamp (by omega)]
  refine pj_J.go (oX4_isEven G) 4 rfl trivial ?_
  refine pj_for (fun k s => pj_J G mX4_isEven (d) 4 [some (.ref 59), some (.int set), some (.int s), some (.int (nI k))] [] (sx_mk c m o D) 0 0 _) (fun k (s : Int32) => s + sx_I m 6 (8 * set + nI k).toNatClampNeg) (fun _ _ => True) n (fun k s hk hi => ⟨trivial, fun kk => ?_⟩) n 0 (0 : Int32) (by simp) trivial (fun hi => ?_)
  · rw [← nI_add1] at kk
    refine pj_J.go (oX4_isEven G) 6 rfl ⟨by exact hset, trivial⟩ ?_
    refine pj_J.neg (by rw [e]; exact nI_lt_lit hk (by omega)) ?_
    refine pj_J.go (oX4_isEven G) 13 rfl ⟨by exact vp_row (p := 4) (q := 8) hset (vp_in_lit (by omega)) (by decide), trivial⟩ ?_
    exact kk
  · skip
    refine pj_J.go (oX4_isEven G) 6 rfl ⟨by exact hset, trivial⟩ ?_
    refine pj_J.pos (by rw [e]; exact nI_ge_lit (Nat.le_refl n) (by omega)) ?_
    refine pj_J.go (oX4_isEven G) 2 rfl trivial ?_
    refine pj_J.ite (fun hc35 => ?_) (fun hc35 => ?_)
    · skip
      refine pj_J.go (oX4_isEven G) 2 rfl trivial ?_
      refine pj_zret dX4_isEven_43 rfl (by first | exact Or.inl rfl | exact Or.inr rfl | exact pj_b01 _) ?_
      show _ = _ ∧ _ = _
      unfold fm_isEven fm_wsum
      rw [ep]
      rw [if_pos hc35]
      exact ⟨rfl, rfl⟩
    · skip
      refine pj_J.go (oX4_isEven G) 1 rfl trivial ?_
      refine pj_zret dX4_isEven_43 rfl (by first | exact Or.inl rfl | exact Or.inr rfl | exact pj_b01 _) ?_
      show _ = _ ∧ _ = _
      unfold fm_isEven fm_wsum
      rw [ep]
      rw [if_neg hc35]
      exact ⟨rfl, rfl⟩
theorem c_X4_weighed {G : pj_G} {d : Nat} {c : sx_C} {m : sx_M} {o : Nat → Int64} {D : pj_H} (set i : Int32) (hset : vp_in set 4) (hw : vp_in (sx_I m 5 set.toNatClampNeg) 9) (hi : vp_in i 8) : pj_Rt G mX4_weighed (d + 1) [.ref 59, .int set, .int i] (sx_mk c m o D) 0 0 (some (.long (fm_weighed m set i))) (sx_mk c m o D) := by
  refine pj_Cn.start ?_
  refine pj_J.go (oX4_weighed G) 2 rfl trivial ?_
  refine pj_J.cal0 kX4_weighed_2 (c_X4_isEven _ hset hw) ⟨_, _, _, rfl, rfl⟩ pj_le0 pj_le0 pj_le0 ?_
  refine pj_J.go (oX4_weighed G) 1 rfl trivial ?_
  refine pj_J.ite (fun hc5 => ?_) (fun hc5 => ?_)
  · skip
    refine pj_J.go (oX4_weighed G) 9 rfl ⟨by exact vp_row (p := 4) (q := 8) hset hi (by decide), trivial⟩ ?_
    refine pj_lret dX4_weighed_24 rfl ?_
    show _ = _ ∧ _ = _
    unfold fm_weighed
    rw [if_pos hc5]
    exact ⟨rfl, rfl⟩
  · skip
    refine pj_J.go (oX4_weighed G) 2 rfl trivial ?_
    refine pj_lret dX4_weighed_24 rfl ?_
    show _ = _ ∧ _ = _
    unfold fm_weighed
    rw [if_neg hc5]
    exact ⟨rfl, rfl⟩
theorem c_X4_partsOf {G : pj_G} {d : Nat} {c : sx_C} {m : sx_M} {o : Nat → Int64} {D : pj_H} (set : Int32) (hset : vp_in set 4) (hw : vp_in (sx_I m 5 set.toNatClampNeg) 9) : pj_Rt G mX4_partsOf (d + 1) [.ref 59, .int set] (sx_mk c m o D) 0 0 (some (.int (fm_partsOf m set))) (sx_mk c m o D) := by
  refine pj_Cn.start ?_
  refine pj_J.go (oX4_partsOf G) 2 rfl trivial ?_
  refine pj_J.cal0 kX4_partsOf_2 (c_X4_isEven _ hset hw) ⟨_, _, _, rfl, rfl⟩ pj_le0 pj_le0 pj_le0 ?_
  refine pj_J.go (oX4_partsOf G) 1 rfl trivial ?_
  refine pj_J.ite (fun hc5 => ?_) (fun hc5 => ?_)
  · skip
    refine pj_J.go (oX4_partsOf G) 4 rfl ⟨by exact hset, trivial⟩ ?_
    refine pj_iret dX4_partsOf_18 rfl ?_
    show _ = _ ∧ _ = _
    unfold fm_partsOf
    rw [if_pos hc5]
    exact ⟨rfl, rfl⟩
  · skip
    refine pj_J.go (oX4_partsOf G) 2 rfl trivial ?_
    refine pj_iret dX4_partsOf_18 rfl ?_
    show _ = _ ∧ _ = _
    unfold fm_partsOf
    rw [if_neg hc5]
    exact ⟨rfl, rfl⟩
theorem fm_partsOf_vp {m : sx_M} {set : Int32} (hw : vp_in (sx_I m 5 set.toNatClampNeg) 9) : vp_in (fm_partsOf m set) 9 := by
  unfold fm_partsOf
  split
  · exact hw
  · exact vp_in_nI (n := 2) (by decide) (by decide)
theorem c_X4_allWeights {G : pj_G} {d : Nat} {c : sx_C} {m : sx_M} {o : Nat → Int64} {D : pj_H} (set : Int32) (hset : vp_in set 4) (hw : vp_in (sx_I m 5 set.toNatClampNeg) 9) : pj_Rt G mX4_allWeights (d + 2) [.ref 59, .int set] (sx_mk c m o D) 0 0 (some (.long (fm_allW m set))) (sx_mk c m o D) := by
  refine pj_Cn.start ?_
  obtain ⟨n, hn, e⟩ := vp_in_of (fm_partsOf_vp hw) (by decide)
  have ep : (fm_partsOf m set).toNatClampNeg = n := by rw [e, nI_clamp (by omega)]
  refine pj_J.go (oX4_allWeights G) 4 rfl trivial ?_
  refine pj_for (fun k s => pj_J G mX4_allWeights (d + 2) 5 [some (.ref 59), some (.int set), some (.long s), none, some (.int (nI k))] [] (sx_mk c m o D) 0 0 _) (fun k (s : Int64) => s + fm_weighed m set (nI k)) (fun _ _ => True) n (fun k s hk hi => ⟨trivial, fun kk => ?_⟩) n 0 (0 : Int64) (by simp) trivial (fun hi => ?_)
  · rw [← nI_add1] at kk
    refine pj_J.go (oX4_allWeights G) 3 rfl trivial ?_
    refine pj_J.cal0 kX4_allWeights_9 (c_X4_partsOf _ hset hw) ⟨_, _, _, rfl, rfl⟩ pj_le0 pj_le0 pj_le0 ?_
    refine pj_J.go (oX4_allWeights G) 1 rfl trivial ?_
    refine pj_J.neg (by rw [e]; exact nI_lt_lit hk (by omega)) ?_
    refine pj_J.go (oX4_allWeights G) 4 rfl trivial ?_
    refine pj_J.cal0 kX4_allWeights_20 (c_X4_weighed _ _ hset hw (vp_in_lit (by omega))) ⟨_, _, _, rfl, rfl⟩ pj_le0 pj_le0 pj_le0 ?_
    refine pj_J.go (oX4_allWeights G) 4 rfl trivial ?_
    exact kk
  · skip
    refine pj_J.go (oX4_allWeights G) 3 rfl trivial ?_
    refine pj_J.cal0 kX4_allWeights_9 (c_X4_partsOf _ hset hw) ⟨_, _, _, rfl, rfl⟩ pj_le0 pj_le0 pj_le0 ?_
    refine pj_J.go (oX4_allWeights G) 1 rfl trivial ?_
    refine pj_J.pos (by rw [e]; exact nI_ge_lit (Nat.le_refl n) (by omega)) ?_
    refine pj_J.go (oX4_allWeights G) 1 rfl trivial ?_
    refine pj_lret dX4_allWeights_32 rfl ?_
    show _ = _ ∧ _ = _
    unfold fm_allW
    rw [ep]
    exact ⟨rfl, rfl⟩
