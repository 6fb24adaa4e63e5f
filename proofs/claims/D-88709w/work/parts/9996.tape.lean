/-! tape, clear (by tools/gen_tape.py) -/
set_option maxRecDepth 100000
theorem sx_tps {c : sx_C} {m : sx_M} {o : Nat → Int64} {D : pj_H} {j : Nat} (hj : j < 6) (v : Option Nat) : (sx_mk c m o D).set (53 + j) (.inr (2, [va_rf v])) = sx_mk (sx_sT c j v) m o D := by
  match j, hj with
  | 0, _ => rfl
  | 1, _ => rfl
  | 2, _ => rfl
  | 3, _ => rfl
  | 4, _ => rfl
  | 5, _ => rfl
  | j + 6, h => omega
theorem sx_tr_at {k : Int32} (hv : vp_in k 6) : sx_tr k.toNatClampNeg = some (53 + k.toNatClampNeg) ∧ k.toNatClampNeg < 6 := by
  have h : k.toNatClampNeg < 6 := by
    unfold vp_in at hv
    omega
  exact ⟨by unfold sx_tr; rw [if_pos h], h⟩
theorem c_X1_clearB {G : pj_G} {d : Nat} {c : sx_C} {m : sx_M} {o : Nat → Int64} {D : pj_H} (k : Int32) (hg : fc_isTape c.1 k = 0) : pj_Rt G mX1_clear (d + 1) [.ref 2, .int k] (sx_mk c m o D) 0 0 (some (.int (-1))) (sx_mk c m o D) := by
  refine pj_Cn.start ?_
  refine pj_J.go (oX1_clear G) 2 rfl trivial ?_
  refine pj_J.cal0 kX1_clear_2 (c_X1_isTape (c := c) k) ⟨_, _, _, rfl, rfl⟩ pj_le0 pj_le0 pj_le0 ?_
  refine pj_J.go (oX1_clear G) 1 rfl trivial ?_
  refine pj_J.pos hg ?_
  refine pj_J.go (oX1_clear G) 1 rfl trivial ?_
  exact pj_iret dX1_clear_9 rfl ⟨rfl, rfl⟩
theorem c_X1_clearG {G : pj_G} {d : Nat} {c : sx_C} {m : sx_M} {o : Nat → Int64} {D : pj_H} (k : Int32) (hg : ¬ fc_isTape c.1 k = 0) (hv : vp_in k 6) (v : Int32) (hs : pj_Rt G mX3_sort d [.ref (53 + k.toNatClampNeg)] (sx_mk c m o D) 0 0 (some (.int v)) (sx_mk c m o D)) : pj_Rt G mX1_clear (d + 1) [.ref 2, .int k] (sx_mk c m o D) 0 0 (some (.int v)) (sx_mk (sx_sT c k.toNatClampNeg none) m o D) := by
  refine pj_Cn.start ?_
  refine pj_J.go (oX1_clear G) 2 rfl trivial ?_
  refine pj_J.cal0 kX1_clear_2 (c_X1_isTape (c := c) k) ⟨_, _, _, rfl, rfl⟩ pj_le0 pj_le0 pj_le0 ?_
  refine pj_J.go (oX1_clear G) 1 rfl trivial ?_
  refine pj_J.neg hg ?_
  refine pj_J.go (oX1_clear G) 4 rfl ⟨by exact hv, trivial⟩ ?_
  refine pj_J.seq (show va_rf (sx_tr k.toNatClampNeg) :: _ = .ref (53 + k.toNatClampNeg) :: _ by rw [(sx_tr_at hv).1]; rfl) ?_
  refine pj_J.cal0 kX1_clear_16 hs ⟨_, _, _, rfl, sx_tp (sx_tr_at hv).2⟩ pj_le0 pj_le0 pj_le0 ?_
  refine pj_J.go (oX1_clear G) 5 rfl ⟨by exact hv, trivial⟩ ?_
  refine pj_J.seq (show va_rf (sx_tr k.toNatClampNeg) :: _ = .ref (53 + k.toNatClampNeg) :: _ by rw [(sx_tr_at hv).1]; rfl) ?_
  refine pj_J.go (oX1_clear G) 1 rfl trivial ?_
  refine pj_J.go1 (pc := 27) (oX1_clear G) rfl (po_putD (cnd := none) (lo := 2) (hi := 2) (k := 0) (ty := .object "java/lang/Object") (n := 30) (by exact sx_tp (sx_tr_at hv).2) (by decide) (by exact Nat.one_pos) rfl) trivial ?_
  refine pj_J.heq (h' := sx_mk (sx_sT c k.toNatClampNeg none) m o D) (sx_tps (sx_tr_at hv).2 none) ?_
  refine pj_J.go (oX1_clear G) 1 rfl trivial ?_
  exact pj_iret dX1_clear_31 rfl ⟨rfl, rfl⟩
theorem c_X1_tapeB {G : pj_G} {d : Nat} {c : sx_C} {m : sx_M} {o : Nat → Int64} {D : pj_H} (k s n : Int32) (hb : ¬ (¬ fc_isTape c.1 k = 0 ∧ ¬ s < 1 ∧ ¬ 4 < s ∧ n ≤ 64)) : pj_Rt G mX1_tape (d + 1) [.ref 2, .int k, .int s, .int n] (sx_mk c m o D) 0 0 (some (.int (-1))) (sx_mk c m o D) := by
  have e : ∀ {L : pj_L}, pj_J G mX1_tape (d + 1) 24 L [] (sx_mk c m o D) 0 0 (fun r x => r = .inl (some (.int (-1))) ∧ x = sx_mk c m o D) := fun {L} => by
    refine pj_J.go (oX1_tape G) 1 rfl trivial ?_
    exact pj_iret dX1_tape_25 rfl ⟨rfl, rfl⟩
  refine pj_Cn.start ?_
  refine pj_J.go (oX1_tape G) 2 rfl trivial ?_
  refine pj_J.cal0 kX1_tape_2 (c_X1_isTape (c := c) k) ⟨_, _, _, rfl, rfl⟩ pj_le0 pj_le0 pj_le0 ?_
  refine pj_J.go (oX1_tape G) 1 rfl trivial ?_
  refine pj_J.ite (fun _ => e) (fun h0 => ?_)
  refine pj_J.go (oX1_tape G) 3 rfl trivial ?_
  refine pj_J.ite (fun _ => e) (fun h1 => ?_)
  refine pj_J.go (oX1_tape G) 3 rfl trivial ?_
  refine pj_J.ite (fun _ => e) (fun h2 => ?_)
  refine pj_J.go (oX1_tape G) 3 rfl trivial ?_
  exact pj_J.ite (fun h3 => absurd ⟨h0, h1, h2, h3⟩ hb) (fun _ => e)
theorem c_X1_tapeG1 {G : pj_G} {d : Nat} {c : sx_C} {m : sx_M} {o : Nat → Int64} {D : pj_H} (k n : Int32) (hg : ¬ fc_isTape c.1 k = 0) (hv : vp_in k 6) (h0 : ¬ n < 0) (hn : n ≤ 64) (hN : n.toNatClampNeg ≤ 64) : pj_Rt G mX1_tape (d + 1) [.ref 2, .int k, .int 1, .int n] (sx_mk c m o D) 1 64 (some (.int n)) (sx_mk (sx_sT c k.toNatClampNeg (some (D.length + 98))) m o (D ++ [.inl (4, (n.toNatClampNeg, .inl (fun _ => 0)))])) := by
  refine pj_Cn.start ?_
  refine pj_J.go (oX1_tape G) 2 rfl trivial ?_
  refine pj_J.cal0 kX1_tape_2 (c_X1_isTape (c := c) k) ⟨_, _, _, rfl, rfl⟩ pj_le0 pj_le0 pj_le0 ?_
  refine pj_J.go (oX1_tape G) 1 rfl trivial ?_
  refine pj_J.neg hg ?_
  refine pj_J.go (oX1_tape G) 3 rfl trivial ?_
  refine pj_J.neg (by decide) ?_
  refine pj_J.go (oX1_tape G) 3 rfl trivial ?_
  refine pj_J.neg (by decide) ?_
  refine pj_J.go (oX1_tape G) 3 rfl trivial ?_
  refine pj_J.pos hn ?_
  refine pj_J.go (oX1_tape G) 3 rfl trivial ?_
  refine pj_J.pos (by decide) ?_
  refine pj_J.go (oX1_tape G) 4 rfl ⟨by exact hv, trivial⟩ ?_
  refine pj_J.seq (show va_rf (sx_tr k.toNatClampNeg) :: _ = .ref (53 + k.toNatClampNeg) :: _ by rw [(sx_tr_at hv).1]; rfl) ?_
  refine pj_J.go (oX1_tape G) 2 rfl ⟨⟨rfl, h0, hN⟩, trivial⟩ ?_
  refine pj_J.eq rfl (st' := [.ref (D.length + 98), .ref (53 + k.toNatClampNeg)]) rfl (h' := sx_mk c m o (D ++ [.inl (4, (n.toNatClampNeg, .inl (fun _ => 0)))])) rfl ?_
  refine pj_J.go1 (pc := 40) (oX1_tape G) rfl (po_putD (cnd := none) (lo := 2) (hi := 2) (k := 0) (ty := .object "java/lang/Object") (n := 43) (by exact sx_tp (sx_tr_at hv).2) (by decide) (by exact Nat.one_pos) rfl) trivial ?_
  refine pj_J.heq (h' := sx_mk (sx_sT c k.toNatClampNeg (some (D.length + 98))) m o (D ++ [.inl (4, (n.toNatClampNeg, .inl (fun _ => 0)))])) (sx_tps (sx_tr_at hv).2 (some (D.length + 98))) ?_
  refine pj_J.go (oX1_tape G) 3 rfl trivial ?_
  exact pj_iret dX1_tape_111 rfl ⟨rfl, rfl⟩
theorem c_X1_tapeN1 {G : pj_G} {d : Nat} {c : sx_C} {m : sx_M} {o : Nat → Int64} {D : pj_H} (k n : Int32) (hg : ¬ fc_isTape c.1 k = 0) (hv : vp_in k 6) (h0 : n < 0) (hn : n ≤ 64) : pj_Rt G mX1_tape (d + 1) [.ref 2, .int k, .int 1, .int n] (sx_mk c m o D) 3 1010 (some (.int ((fc_snag c.1 (-14)).1))) (sx_mk (sx_sM c ((fc_snag c.1 (-14)).2)) m o (D ++ [.inr (90, []), .inr (90, []), .inr (24, [])])) := by
  refine pj_Cn.start ?_
  refine pj_J.go (oX1_tape G) 2 rfl trivial ?_
  refine pj_J.cal0 kX1_tape_2 (c_X1_isTape (c := c) k) ⟨_, _, _, rfl, rfl⟩ pj_le0 pj_le0 pj_le0 ?_
  refine pj_J.go (oX1_tape G) 1 rfl trivial ?_
  refine pj_J.neg hg ?_
  refine pj_J.go (oX1_tape G) 3 rfl trivial ?_
  refine pj_J.neg (by decide) ?_
  refine pj_J.go (oX1_tape G) 3 rfl trivial ?_
  refine pj_J.neg (by decide) ?_
  refine pj_J.go (oX1_tape G) 3 rfl trivial ?_
  refine pj_J.pos hn ?_
  refine pj_J.go (oX1_tape G) 3 rfl trivial ?_
  refine pj_J.pos (by decide) ?_
  refine pj_J.go (oX1_tape G) 4 rfl ⟨by exact hv, trivial⟩ ?_
  refine pj_J.seq (show va_rf (sx_tr k.toNatClampNeg) :: _ = .ref (53 + k.toNatClampNeg) :: _ by rw [(sx_tr_at hv).1]; rfl) ?_
  refine pj_J.go (oX1_tape G) 1 rfl trivial ?_
  refine pj_J.raiseG (kc := 0) (ks := 0) (rn_neg h0 dX1_tape_38 (Nat.le_of_ble_eq_true rfl)) whX1_tape (Or.inl ⟨_, [some ("java/lang/NegativeArraySizeException", true)], 101, by decide, rfl, ⟨⟨by decide, by decide⟩, by decide, q1031, pj_xC 0 rfl, rfl⟩, ?_⟩)
  refine pj_J.heq (h' := sx_mk c m o (D ++ [.inr (90, []), .inr (90, []), .inr (24, [])])) rfl ?_
  refine pj_J.go (oX1_tape G) 3 rfl trivial ?_
  refine pj_J.cal0 kX1_tape_106 (c_X1_snag (c := c) (-14)) ⟨_, _, _, rfl, rfl⟩ pj_le0 pj_le0 pj_le0 ?_
  exact pj_iret dX1_tape_109 rfl ⟨rfl, rfl⟩
theorem c_X1_tapeG2 {G : pj_G} {d : Nat} {c : sx_C} {m : sx_M} {o : Nat → Int64} {D : pj_H} (k n : Int32) (hg : ¬ fc_isTape c.1 k = 0) (hv : vp_in k 6) (h0 : ¬ n < 0) (hn : n ≤ 64) (hN : n.toNatClampNeg ≤ 64) : pj_Rt G mX1_tape (d + 1) [.ref 2, .int k, .int 2, .int n] (sx_mk c m o D) 1 64 (some (.int n)) (sx_mk (sx_sT c k.toNatClampNeg (some (D.length + 98))) m o (D ++ [.inl (5, (n.toNatClampNeg, .inl (fun _ => 0)))])) := by
  refine pj_Cn.start ?_
  refine pj_J.go (oX1_tape G) 2 rfl trivial ?_
  refine pj_J.cal0 kX1_tape_2 (c_X1_isTape (c := c) k) ⟨_, _, _, rfl, rfl⟩ pj_le0 pj_le0 pj_le0 ?_
  refine pj_J.go (oX1_tape G) 1 rfl trivial ?_
  refine pj_J.neg hg ?_
  refine pj_J.go (oX1_tape G) 3 rfl trivial ?_
  refine pj_J.neg (by decide) ?_
  refine pj_J.go (oX1_tape G) 3 rfl trivial ?_
  refine pj_J.neg (by decide) ?_
  refine pj_J.go (oX1_tape G) 3 rfl trivial ?_
  refine pj_J.pos hn ?_
  refine pj_J.go (oX1_tape G) 3 rfl trivial ?_
  refine pj_J.neg (by decide) ?_
  refine pj_J.go (oX1_tape G) 3 rfl trivial ?_
  refine pj_J.pos (by decide) ?_
  refine pj_J.go (oX1_tape G) 4 rfl ⟨by exact hv, trivial⟩ ?_
  refine pj_J.seq (show va_rf (sx_tr k.toNatClampNeg) :: _ = .ref (53 + k.toNatClampNeg) :: _ by rw [(sx_tr_at hv).1]; rfl) ?_
  refine pj_J.go (oX1_tape G) 2 rfl ⟨⟨rfl, h0, hN⟩, trivial⟩ ?_
  refine pj_J.eq rfl (st' := [.ref (D.length + 98), .ref (53 + k.toNatClampNeg)]) rfl (h' := sx_mk c m o (D ++ [.inl (5, (n.toNatClampNeg, .inl (fun _ => 0)))])) rfl ?_
  refine pj_J.go1 (pc := 60) (oX1_tape G) rfl (po_putD (cnd := none) (lo := 2) (hi := 2) (k := 0) (ty := .object "java/lang/Object") (n := 63) (by exact sx_tp (sx_tr_at hv).2) (by decide) (by exact Nat.one_pos) rfl) trivial ?_
  refine pj_J.heq (h' := sx_mk (sx_sT c k.toNatClampNeg (some (D.length + 98))) m o (D ++ [.inl (5, (n.toNatClampNeg, .inl (fun _ => 0)))])) (sx_tps (sx_tr_at hv).2 (some (D.length + 98))) ?_
  refine pj_J.go (oX1_tape G) 3 rfl trivial ?_
  exact pj_iret dX1_tape_111 rfl ⟨rfl, rfl⟩
theorem c_X1_tapeN2 {G : pj_G} {d : Nat} {c : sx_C} {m : sx_M} {o : Nat → Int64} {D : pj_H} (k n : Int32) (hg : ¬ fc_isTape c.1 k = 0) (hv : vp_in k 6) (h0 : n < 0) (hn : n ≤ 64) : pj_Rt G mX1_tape (d + 1) [.ref 2, .int k, .int 2, .int n] (sx_mk c m o D) 3 1010 (some (.int ((fc_snag c.1 (-14)).1))) (sx_mk (sx_sM c ((fc_snag c.1 (-14)).2)) m o (D ++ [.inr (90, []), .inr (90, []), .inr (24, [])])) := by
  refine pj_Cn.start ?_
  refine pj_J.go (oX1_tape G) 2 rfl trivial ?_
  refine pj_J.cal0 kX1_tape_2 (c_X1_isTape (c := c) k) ⟨_, _, _, rfl, rfl⟩ pj_le0 pj_le0 pj_le0 ?_
  refine pj_J.go (oX1_tape G) 1 rfl trivial ?_
  refine pj_J.neg hg ?_
  refine pj_J.go (oX1_tape G) 3 rfl trivial ?_
  refine pj_J.neg (by decide) ?_
  refine pj_J.go (oX1_tape G) 3 rfl trivial ?_
  refine pj_J.neg (by decide) ?_
  refine pj_J.go (oX1_tape G) 3 rfl trivial ?_
  refine pj_J.pos hn ?_
  refine pj_J.go (oX1_tape G) 3 rfl trivial ?_
  refine pj_J.neg (by decide) ?_
  refine pj_J.go (oX1_tape G) 3 rfl trivial ?_
  refine pj_J.pos (by decide) ?_
  refine pj_J.go (oX1_tape G) 4 rfl ⟨by exact hv, trivial⟩ ?_
  refine pj_J.seq (show va_rf (sx_tr k.toNatClampNeg) :: _ = .ref (53 + k.toNatClampNeg) :: _ by rw [(sx_tr_at hv).1]; rfl) ?_
  refine pj_J.go (oX1_tape G) 1 rfl trivial ?_
  refine pj_J.raiseG (kc := 0) (ks := 0) (rn_neg h0 dX1_tape_58 (Nat.le_of_ble_eq_true rfl)) whX1_tape (Or.inl ⟨_, [some ("java/lang/NegativeArraySizeException", true)], 101, by decide, rfl, ⟨⟨by decide, by decide⟩, by decide, q1031, pj_xC 0 rfl, rfl⟩, ?_⟩)
  refine pj_J.heq (h' := sx_mk c m o (D ++ [.inr (90, []), .inr (90, []), .inr (24, [])])) rfl ?_
  refine pj_J.go (oX1_tape G) 3 rfl trivial ?_
  refine pj_J.cal0 kX1_tape_106 (c_X1_snag (c := c) (-14)) ⟨_, _, _, rfl, rfl⟩ pj_le0 pj_le0 pj_le0 ?_
  exact pj_iret dX1_tape_109 rfl ⟨rfl, rfl⟩
theorem c_X1_tapeG3 {G : pj_G} {d : Nat} {c : sx_C} {m : sx_M} {o : Nat → Int64} {D : pj_H} (k n : Int32) (hg : ¬ fc_isTape c.1 k = 0) (hv : vp_in k 6) (h0 : ¬ n < 0) (hn : n ≤ 64) (hN : n.toNatClampNeg ≤ 64) : pj_Rt G mX1_tape (d + 1) [.ref 2, .int k, .int 3, .int n] (sx_mk c m o D) 1 64 (some (.int n)) (sx_mk (sx_sT c k.toNatClampNeg (some (D.length + 98))) m o (D ++ [.inl (0, (n.toNatClampNeg, .inl (fun _ => 0)))])) := by
  refine pj_Cn.start ?_
  refine pj_J.go (oX1_tape G) 2 rfl trivial ?_
  refine pj_J.cal0 kX1_tape_2 (c_X1_isTape (c := c) k) ⟨_, _, _, rfl, rfl⟩ pj_le0 pj_le0 pj_le0 ?_
  refine pj_J.go (oX1_tape G) 1 rfl trivial ?_
  refine pj_J.neg hg ?_
  refine pj_J.go (oX1_tape G) 3 rfl trivial ?_
  refine pj_J.neg (by decide) ?_
  refine pj_J.go (oX1_tape G) 3 rfl trivial ?_
  refine pj_J.neg (by decide) ?_
  refine pj_J.go (oX1_tape G) 3 rfl trivial ?_
  refine pj_J.pos hn ?_
  refine pj_J.go (oX1_tape G) 3 rfl trivial ?_
  refine pj_J.neg (by decide) ?_
  refine pj_J.go (oX1_tape G) 3 rfl trivial ?_
  refine pj_J.neg (by decide) ?_
  refine pj_J.go (oX1_tape G) 3 rfl trivial ?_
  refine pj_J.pos (by decide) ?_
  refine pj_J.go (oX1_tape G) 4 rfl ⟨by exact hv, trivial⟩ ?_
  refine pj_J.seq (show va_rf (sx_tr k.toNatClampNeg) :: _ = .ref (53 + k.toNatClampNeg) :: _ by rw [(sx_tr_at hv).1]; rfl) ?_
  refine pj_J.go (oX1_tape G) 2 rfl ⟨⟨rfl, h0, hN⟩, trivial⟩ ?_
  refine pj_J.eq rfl (st' := [.ref (D.length + 98), .ref (53 + k.toNatClampNeg)]) rfl (h' := sx_mk c m o (D ++ [.inl (0, (n.toNatClampNeg, .inl (fun _ => 0)))])) rfl ?_
  refine pj_J.go1 (pc := 80) (oX1_tape G) rfl (po_putD (cnd := none) (lo := 2) (hi := 2) (k := 0) (ty := .object "java/lang/Object") (n := 83) (by exact sx_tp (sx_tr_at hv).2) (by decide) (by exact Nat.one_pos) rfl) trivial ?_
  refine pj_J.heq (h' := sx_mk (sx_sT c k.toNatClampNeg (some (D.length + 98))) m o (D ++ [.inl (0, (n.toNatClampNeg, .inl (fun _ => 0)))])) (sx_tps (sx_tr_at hv).2 (some (D.length + 98))) ?_
  refine pj_J.go (oX1_tape G) 3 rfl trivial ?_
  exact pj_iret dX1_tape_111 rfl ⟨rfl, rfl⟩
theorem c_X1_tapeN3 {G : pj_G} {d : Nat} {c : sx_C} {m : sx_M} {o : Nat → Int64} {D : pj_H} (k n : Int32) (hg : ¬ fc_isTape c.1 k = 0) (hv : vp_in k 6) (h0 : n < 0) (hn : n ≤ 64) : pj_Rt G mX1_tape (d + 1) [.ref 2, .int k, .int 3, .int n] (sx_mk c m o D) 3 1010 (some (.int ((fc_snag c.1 (-14)).1))) (sx_mk (sx_sM c ((fc_snag c.1 (-14)).2)) m o (D ++ [.inr (90, []), .inr (90, []), .inr (24, [])])) := by
  refine pj_Cn.start ?_
  refine pj_J.go (oX1_tape G) 2 rfl trivial ?_
  refine pj_J.cal0 kX1_tape_2 (c_X1_isTape (c := c) k) ⟨_, _, _, rfl, rfl⟩ pj_le0 pj_le0 pj_le0 ?_
  refine pj_J.go (oX1_tape G) 1 rfl trivial ?_
  refine pj_J.neg hg ?_
  refine pj_J.go (oX1_tape G) 3 rfl trivial ?_
  refine pj_J.neg (by decide) ?_
  refine pj_J.go (oX1_tape G) 3 rfl trivial ?_
  refine pj_J.neg (by decide) ?_
  refine pj_J.go (oX1_tape G) 3 rfl trivial ?_
  refine pj_J.pos hn ?_
  refine pj_J.go (oX1_tape G) 3 rfl trivial ?_
  refine pj_J.neg (by decide) ?_
  refine pj_J.go (oX1_tape G) 3 rfl trivial ?_
  refine pj_J.neg (by decide) ?_
  refine pj_J.go (oX1_tape G) 3 rfl trivial ?_
  refine pj_J.pos (by decide) ?_
  refine pj_J.go (oX1_tape G) 4 rfl ⟨by exact hv, trivial⟩ ?_
  refine pj_J.seq (show va_rf (sx_tr k.toNatClampNeg) :: _ = .ref (53 + k.toNatClampNeg) :: _ by rw [(sx_tr_at hv).1]; rfl) ?_
  refine pj_J.go (oX1_tape G) 1 rfl trivial ?_
  refine pj_J.raiseG (kc := 0) (ks := 0) (rn_neg h0 dX1_tape_78 (Nat.le_of_ble_eq_true rfl)) whX1_tape (Or.inl ⟨_, [some ("java/lang/NegativeArraySizeException", true)], 101, by decide, rfl, ⟨⟨by decide, by decide⟩, by decide, q1031, pj_xC 0 rfl, rfl⟩, ?_⟩)
  refine pj_J.heq (h' := sx_mk c m o (D ++ [.inr (90, []), .inr (90, []), .inr (24, [])])) rfl ?_
  refine pj_J.go (oX1_tape G) 3 rfl trivial ?_
  refine pj_J.cal0 kX1_tape_106 (c_X1_snag (c := c) (-14)) ⟨_, _, _, rfl, rfl⟩ pj_le0 pj_le0 pj_le0 ?_
  exact pj_iret dX1_tape_109 rfl ⟨rfl, rfl⟩
theorem c_X1_tapeG4 {G : pj_G} {d : Nat} {c : sx_C} {m : sx_M} {o : Nat → Int64} {D : pj_H} (k n : Int32) (hg : ¬ fc_isTape c.1 k = 0) (hv : vp_in k 6) (h0 : ¬ n < 0) (hn : n ≤ 64) (hN : n.toNatClampNeg ≤ 64) : pj_Rt G mX1_tape (d + 1) [.ref 2, .int k, .int 4, .int n] (sx_mk c m o D) 1 64 (some (.int n)) (sx_mk (sx_sT c k.toNatClampNeg (some (D.length + 98))) m o (D ++ [.inl (1, (n.toNatClampNeg, .inr (.inl (fun _ => 0))))])) := by
  refine pj_Cn.start ?_
  refine pj_J.go (oX1_tape G) 2 rfl trivial ?_
  refine pj_J.cal0 kX1_tape_2 (c_X1_isTape (c := c) k) ⟨_, _, _, rfl, rfl⟩ pj_le0 pj_le0 pj_le0 ?_
  refine pj_J.go (oX1_tape G) 1 rfl trivial ?_
  refine pj_J.neg hg ?_
  refine pj_J.go (oX1_tape G) 3 rfl trivial ?_
  refine pj_J.neg (by decide) ?_
  refine pj_J.go (oX1_tape G) 3 rfl trivial ?_
  refine pj_J.neg (by decide) ?_
  refine pj_J.go (oX1_tape G) 3 rfl trivial ?_
  refine pj_J.pos hn ?_
  refine pj_J.go (oX1_tape G) 3 rfl trivial ?_
  refine pj_J.neg (by decide) ?_
  refine pj_J.go (oX1_tape G) 3 rfl trivial ?_
  refine pj_J.neg (by decide) ?_
  refine pj_J.go (oX1_tape G) 3 rfl trivial ?_
  refine pj_J.neg (by decide) ?_
  refine pj_J.go (oX1_tape G) 4 rfl ⟨by exact hv, trivial⟩ ?_
  refine pj_J.seq (show va_rf (sx_tr k.toNatClampNeg) :: _ = .ref (53 + k.toNatClampNeg) :: _ by rw [(sx_tr_at hv).1]; rfl) ?_
  refine pj_J.go (oX1_tape G) 2 rfl ⟨⟨rfl, h0, hN⟩, trivial⟩ ?_
  refine pj_J.eq rfl (st' := [.ref (D.length + 98), .ref (53 + k.toNatClampNeg)]) rfl (h' := sx_mk c m o (D ++ [.inl (1, (n.toNatClampNeg, .inr (.inl (fun _ => 0))))])) rfl ?_
  refine pj_J.go1 (pc := 95) (oX1_tape G) rfl (po_putD (cnd := none) (lo := 2) (hi := 2) (k := 0) (ty := .object "java/lang/Object") (n := 98) (by exact sx_tp (sx_tr_at hv).2) (by decide) (by exact Nat.one_pos) rfl) trivial ?_
  refine pj_J.heq (h' := sx_mk (sx_sT c k.toNatClampNeg (some (D.length + 98))) m o (D ++ [.inl (1, (n.toNatClampNeg, .inr (.inl (fun _ => 0))))])) (sx_tps (sx_tr_at hv).2 (some (D.length + 98))) ?_
  refine pj_J.go (oX1_tape G) 2 rfl trivial ?_
  exact pj_iret dX1_tape_111 rfl ⟨rfl, rfl⟩
theorem c_X1_tapeN4 {G : pj_G} {d : Nat} {c : sx_C} {m : sx_M} {o : Nat → Int64} {D : pj_H} (k n : Int32) (hg : ¬ fc_isTape c.1 k = 0) (hv : vp_in k 6) (h0 : n < 0) (hn : n ≤ 64) : pj_Rt G mX1_tape (d + 1) [.ref 2, .int k, .int 4, .int n] (sx_mk c m o D) 3 1010 (some (.int ((fc_snag c.1 (-14)).1))) (sx_mk (sx_sM c ((fc_snag c.1 (-14)).2)) m o (D ++ [.inr (90, []), .inr (90, []), .inr (24, [])])) := by
  refine pj_Cn.start ?_
  refine pj_J.go (oX1_tape G) 2 rfl trivial ?_
  refine pj_J.cal0 kX1_tape_2 (c_X1_isTape (c := c) k) ⟨_, _, _, rfl, rfl⟩ pj_le0 pj_le0 pj_le0 ?_
  refine pj_J.go (oX1_tape G) 1 rfl trivial ?_
  refine pj_J.neg hg ?_
  refine pj_J.go (oX1_tape G) 3 rfl trivial ?_
  refine pj_J.neg (by decide) ?_
  refine pj_J.go (oX1_tape G) 3 rfl trivial ?_
  refine pj_J.neg (by decide) ?_
  refine pj_J.go (oX1_tape G) 3 rfl trivial ?_
  refine pj_J.pos hn ?_
  refine pj_J.go (oX1_tape G) 3 rfl trivial ?_
  refine pj_J.neg (by decide) ?_
  refine pj_J.go (oX1_tape G) 3 rfl trivial ?_
  refine pj_J.neg (by decide) ?_
  refine pj_J.go (oX1_tape G) 3 rfl trivial ?_
  refine pj_J.neg (by decide) ?_
  refine pj_J.go (oX1_tape G) 4 rfl ⟨by exact hv, trivial⟩ ?_
  refine pj_J.seq (show va_rf (sx_tr k.toNatClampNeg) :: _ = .ref (53 + k.toNatClampNeg) :: _ by rw [(sx_tr_at hv).1]; rfl) ?_
  refine pj_J.go (oX1_tape G) 1 rfl trivial ?_
  refine pj_J.raiseG (kc := 0) (ks := 0) (rn_neg h0 dX1_tape_93 (Nat.le_of_ble_eq_true rfl)) whX1_tape (Or.inl ⟨_, [some ("java/lang/NegativeArraySizeException", true)], 101, by decide, rfl, ⟨⟨by decide, by decide⟩, by decide, q1031, pj_xC 0 rfl, rfl⟩, ?_⟩)
  refine pj_J.heq (h' := sx_mk c m o (D ++ [.inr (90, []), .inr (90, []), .inr (24, [])])) rfl ?_
  refine pj_J.go (oX1_tape G) 3 rfl trivial ?_
  refine pj_J.cal0 kX1_tape_106 (c_X1_snag (c := c) (-14)) ⟨_, _, _, rfl, rfl⟩ pj_le0 pj_le0 pj_le0 ?_
  exact pj_iret dX1_tape_109 rfl ⟨rfl, rfl⟩
