/-! PennyJudge: slot, carried with good arguments (by tools/gen_u2.py) -/
set_option maxRecDepth 100000
def fc_slotV (u : sx_M) (s w : Int32) : Int64 := if w = 0 then sx_L u 0 s.toNatClampNeg else if w = 1 then sx_L u 1 s.toNatClampNeg else if sx_I u 2 s.toNatClampNeg = 0 then 0 else 1
theorem c_X1_slotG {G : pj_G} {d : Nat} {c : sx_C} {m : sx_M} {o : Nat → Int64} {D : pj_H} (s w : Int32) (hg : ¬ s < 0 ∧ ¬ 7 < s ∧ ¬ w < 0 ∧ w ≤ 2) : pj_Rt G mX1_slot d [.ref 2, .int s, .int w] (sx_mk c m o D) 0 0 (some (.long (fc_slotV (sx_R c 0) s w))) (sx_mk c m o D) := by
  refine pj_Cn.start ?_
  refine pj_J.go (oX1_slot G) 2 rfl trivial ?_
  refine pj_J.neg (hg.1) ?_
  refine pj_J.go (oX1_slot G) 3 rfl trivial ?_
  refine pj_J.neg (hg.2.1) ?_
  refine pj_J.go (oX1_slot G) 2 rfl trivial ?_
  refine pj_J.neg (hg.2.2.1) ?_
  refine pj_J.go (oX1_slot G) 3 rfl trivial ?_
  refine pj_J.pos (hg.2.2.2) ?_
  refine pj_J.go (oX1_slot G) 2 rfl trivial ?_
  refine pj_J.ite (fun hc28 => ?_) (fun hc28 => ?_)
  · skip
    refine pj_J.go (oX1_slot G) 6 rfl ⟨by exact vp_rng (n := 7) hg.1 hg.2.1, trivial⟩ ?_
    refine pj_lret dX1_slot_77 rfl ?_
    show _ = _ ∧ _ = _
    unfold fc_slotV
    rw [if_pos (show w = (0 : Int32) from hc28)]
    exact ⟨rfl, rfl⟩
  · skip
    refine pj_J.go (oX1_slot G) 3 rfl trivial ?_
    refine pj_J.ite (fun hc45 => ?_) (fun hc45 => ?_)
    · skip
      refine pj_J.go (oX1_slot G) 6 rfl ⟨by exact vp_rng (n := 7) hg.1 hg.2.1, trivial⟩ ?_
      refine pj_lret dX1_slot_77 rfl ?_
      show _ = _ ∧ _ = _
      unfold fc_slotV
      rw [if_neg (show ¬ (w = (0 : Int32)) from hc28), if_pos (show w = (1 : Int32) from hc45)]
      exact ⟨rfl, rfl⟩
    · skip
      refine pj_J.go (oX1_slot G) 6 rfl ⟨by exact vp_rng (n := 7) hg.1 hg.2.1, trivial⟩ ?_
      refine pj_J.ite (fun hc69 => ?_) (fun hc69 => ?_)
      · skip
        refine pj_J.go (oX1_slot G) 1 rfl trivial ?_
        refine pj_lret dX1_slot_77 rfl ?_
        show _ = _ ∧ _ = _
        unfold fc_slotV
        rw [if_neg (show ¬ (w = (0 : Int32)) from hc28), if_neg (show ¬ (w = (1 : Int32)) from hc45), if_pos (show (sx_I (sx_R c 0) 2 s.toNatClampNeg) = (0 : Int32) from hc69)]
        exact ⟨rfl, rfl⟩
      · skip
        refine pj_J.go (oX1_slot G) 2 rfl trivial ?_
        refine pj_lret dX1_slot_77 rfl ?_
        show _ = _ ∧ _ = _
        unfold fc_slotV
        rw [if_neg (show ¬ (w = (0 : Int32)) from hc28), if_neg (show ¬ (w = (1 : Int32)) from hc45), if_neg (show ¬ ((sx_I (sx_R c 0) 2 s.toNatClampNeg) = (0 : Int32)) from hc69)]
        exact ⟨rfl, rfl⟩
theorem c_X1_carriedG {G : pj_G} {d : Nat} {c : sx_C} {m : sx_M} {o : Nat → Int64} {D : pj_H} (p w : Int32) (hg : ¬ fc_isProgram c.1 p = 0 ∧ ¬ w < 0 ∧ w ≤ 1) (hp4 : vp_in p 4) {pi : Nat} (hpi : sx_P c p.toNatClampNeg = some (pi + 98)) {ai n : Nat} {cn cd : Int64} (hp : D[pi]? = some (.inr (4, [.ref (ai + 98), .int (nI n), .long cn, .long cd]))) : pj_Rt G mX1_carried (d + 1) [.ref 2, .int p, .int w] (sx_mk c m o D) 0 0 (some (.long (if w = 0 then cn else cd))) (sx_mk c m o D) := by
  refine pj_Cn.start ?_
  refine pj_J.go (oX1_carried G) 2 rfl trivial ?_
  refine pj_J.cal0 kX1_carried_2 (c_X1_isProgram (c := c) p) ⟨_, _, _, rfl, rfl⟩ pj_le0 pj_le0 pj_le0 ?_
  refine pj_J.go (oX1_carried G) 1 rfl trivial ?_
  refine pj_J.neg (hg.1) ?_
  refine pj_J.go (oX1_carried G) 2 rfl trivial ?_
  refine pj_J.neg (hg.2.1) ?_
  refine pj_J.go (oX1_carried G) 3 rfl trivial ?_
  refine pj_J.pos (hg.2.2) ?_
  refine pj_J.go (oX1_carried G) 2 rfl trivial ?_
  refine pj_J.ite (fun hc26 => ?_) (fun hc26 => ?_)
  · skip
    refine pj_J.go (oX1_carried G) 4 rfl ⟨by exact hp4, trivial⟩ ?_
    refine pj_J.seq (show va_rf (sx_P c p.toNatClampNeg) :: _ = .ref (pi + 98) :: _ by rw [hpi]; rfl) ?_
    refine pj_J.go1 (pc := 35) (oX1_carried G) rfl (po_getD (lo := 4) (hi := 4) (k := 2) (n := 38) (by exact hp) (by decide) (by rfl)) trivial ?_
    refine pj_J.go (oX1_carried G) 1 rfl trivial ?_
    refine pj_lret dX1_carried_50 rfl ?_
    show _ = _ ∧ _ = _
    rw [if_pos (show w = (0 : Int32) from hc26)]
    exact ⟨rfl, rfl⟩
  · skip
    refine pj_J.go (oX1_carried G) 4 rfl ⟨by exact hp4, trivial⟩ ?_
    refine pj_J.seq (show va_rf (sx_P c p.toNatClampNeg) :: _ = .ref (pi + 98) :: _ by rw [hpi]; rfl) ?_
    refine pj_J.go1 (pc := 47) (oX1_carried G) rfl (po_getD (lo := 4) (hi := 4) (k := 3) (n := 50) (by exact hp) (by decide) (by rfl)) trivial ?_
    refine pj_lret dX1_carried_50 rfl ?_
    show _ = _ ∧ _ = _
    rw [if_neg (show ¬ (w = (0 : Int32)) from hc26)]
    exact ⟨rfl, rfl⟩
