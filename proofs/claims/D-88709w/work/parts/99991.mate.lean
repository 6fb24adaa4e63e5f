/-! mate (by tools/gen_mate.py) -/
set_option maxRecDepth 100000
theorem c_X1_mate1 {G : pj_G} {d : Nat} {h : pj_H} {x : Value} {b N : Nat} {z : (Nat → Int32) ⊕ (Nat → Int64) ⊕ (Nat → UInt32) ⊕ (Nat → UInt64) ⊕ (Nat → Option Nat)} (ha : h[b]? = some (.inl (4, (N, z)))) (hx : x = .null ∨ ∃ a, x = .ref a) : pj_Rt G mX1_mate d [.int 1, x, .ref b] h 0 0 (some (.int (Int32.ofNat N))) h := by
  rcases hx with rfl | ⟨a, rfl⟩
  · skip
    refine pj_Cn.start ?_
    refine pj_J.go (oX1_mate G) 3 rfl trivial ?_
    refine pj_J.pos (by decide) ?_
    refine pj_J.go (oX1_mate G) 1 rfl trivial ?_
    refine pj_J.castY dX1_mate_6 q1279 (Or.inr ⟨_, _, ha, Or.inr (Or.inr (Or.inl ⟨rfl, rfl⟩))⟩) ?_
    refine pj_J.go1 (pc := 9) (oX1_mate G) rfl (po_alenD (n := 10) ha (by decide)) trivial ?_
    exact pj_iret dX1_mate_10 rfl ⟨rfl, rfl⟩
  · skip
    refine pj_Cn.start ?_
    refine pj_J.go (oX1_mate G) 3 rfl trivial ?_
    refine pj_J.pos (by decide) ?_
    refine pj_J.go (oX1_mate G) 1 rfl trivial ?_
    refine pj_J.castY dX1_mate_6 q1279 (Or.inr ⟨_, _, ha, Or.inr (Or.inr (Or.inl ⟨rfl, rfl⟩))⟩) ?_
    refine pj_J.go1 (pc := 9) (oX1_mate G) rfl (po_alenD (n := 10) ha (by decide)) trivial ?_
    exact pj_iret dX1_mate_10 rfl ⟨rfl, rfl⟩
theorem c_X1_mate1C {G : pj_G} {d : Nat} {h : pj_H} {a b : Nat} {C : String} (hi : px_is h b C) (hC : (C, "[B") ∈ px_eT) : pj_Cn G mX1_mate d [.int 1, .ref a, .ref b] h 3 1010 (px_t3 22 h) := by
  refine pj_Cn.start ?_
  refine pj_J.go (oX1_mate G) 3 rfl trivial ?_
  refine pj_J.pos (by decide) ?_
  refine pj_J.go (oX1_mate G) 1 rfl trivial ?_
  exact pj_J.raiseC (kc := 0) (ks := 0) (rc_cast dX1_mate_6 q1279 hi hC (Nat.le_of_ble_eq_true rfl)) whX1_mate (Or.inr ⟨rfl, rfl, rfl⟩)
theorem c_X1_mate2 {G : pj_G} {d : Nat} {h : pj_H} {x : Value} {b N : Nat} {z : (Nat → Int32) ⊕ (Nat → Int64) ⊕ (Nat → UInt32) ⊕ (Nat → UInt64) ⊕ (Nat → Option Nat)} (ha : h[b]? = some (.inl (5, (N, z)))) (hx : x = .null ∨ ∃ a, x = .ref a) : pj_Rt G mX1_mate d [.int 2, x, .ref b] h 0 0 (some (.int (Int32.ofNat N))) h := by
  rcases hx with rfl | ⟨a, rfl⟩
  · skip
    refine pj_Cn.start ?_
    refine pj_J.go (oX1_mate G) 3 rfl trivial ?_
    refine pj_J.neg (by decide) ?_
    refine pj_J.go (oX1_mate G) 3 rfl trivial ?_
    refine pj_J.pos (by decide) ?_
    refine pj_J.go (oX1_mate G) 1 rfl trivial ?_
    refine pj_J.castY dX1_mate_17 q1255 (Or.inr ⟨_, _, ha, Or.inr (Or.inr (Or.inr ⟨rfl, rfl⟩))⟩) ?_
    refine pj_J.go1 (pc := 20) (oX1_mate G) rfl (po_alenD (n := 21) ha (by decide)) trivial ?_
    exact pj_iret dX1_mate_21 rfl ⟨rfl, rfl⟩
  · skip
    refine pj_Cn.start ?_
    refine pj_J.go (oX1_mate G) 3 rfl trivial ?_
    refine pj_J.neg (by decide) ?_
    refine pj_J.go (oX1_mate G) 3 rfl trivial ?_
    refine pj_J.pos (by decide) ?_
    refine pj_J.go (oX1_mate G) 1 rfl trivial ?_
    refine pj_J.castY dX1_mate_17 q1255 (Or.inr ⟨_, _, ha, Or.inr (Or.inr (Or.inr ⟨rfl, rfl⟩))⟩) ?_
    refine pj_J.go1 (pc := 20) (oX1_mate G) rfl (po_alenD (n := 21) ha (by decide)) trivial ?_
    exact pj_iret dX1_mate_21 rfl ⟨rfl, rfl⟩
theorem c_X1_mate2C {G : pj_G} {d : Nat} {h : pj_H} {a b : Nat} {C : String} (hi : px_is h b C) (hC : (C, "[S") ∈ px_eT) : pj_Cn G mX1_mate d [.int 2, .ref a, .ref b] h 3 1010 (px_t3 22 h) := by
  refine pj_Cn.start ?_
  refine pj_J.go (oX1_mate G) 3 rfl trivial ?_
  refine pj_J.neg (by decide) ?_
  refine pj_J.go (oX1_mate G) 3 rfl trivial ?_
  refine pj_J.pos (by decide) ?_
  refine pj_J.go (oX1_mate G) 1 rfl trivial ?_
  exact pj_J.raiseC (kc := 0) (ks := 0) (rc_cast dX1_mate_17 q1255 hi hC (Nat.le_of_ble_eq_true rfl)) whX1_mate (Or.inr ⟨rfl, rfl, rfl⟩)
theorem c_X1_mate3 {G : pj_G} {d : Nat} {h : pj_H} {x : Value} {b N : Nat} {z : (Nat → Int32) ⊕ (Nat → Int64) ⊕ (Nat → UInt32) ⊕ (Nat → UInt64) ⊕ (Nat → Option Nat)} (ha : h[b]? = some (.inl (0, (N, z)))) (hx : x = .null ∨ ∃ a, x = .ref a) : pj_Rt G mX1_mate d [.int 3, x, .ref b] h 0 0 (some (.int (Int32.ofNat N))) h := by
  rcases hx with rfl | ⟨a, rfl⟩
  · skip
    refine pj_Cn.start ?_
    refine pj_J.go (oX1_mate G) 3 rfl trivial ?_
    refine pj_J.neg (by decide) ?_
    refine pj_J.go (oX1_mate G) 3 rfl trivial ?_
    refine pj_J.neg (by decide) ?_
    refine pj_J.go (oX1_mate G) 3 rfl trivial ?_
    refine pj_J.pos (by decide) ?_
    refine pj_J.go (oX1_mate G) 1 rfl trivial ?_
    refine pj_J.castY dX1_mate_28 q1256 (Or.inr ⟨_, _, ha, Or.inl ⟨rfl, rfl⟩⟩) ?_
    refine pj_J.go1 (pc := 31) (oX1_mate G) rfl (po_alenD (n := 32) ha (by decide)) trivial ?_
    exact pj_iret dX1_mate_32 rfl ⟨rfl, rfl⟩
  · skip
    refine pj_Cn.start ?_
    refine pj_J.go (oX1_mate G) 3 rfl trivial ?_
    refine pj_J.neg (by decide) ?_
    refine pj_J.go (oX1_mate G) 3 rfl trivial ?_
    refine pj_J.neg (by decide) ?_
    refine pj_J.go (oX1_mate G) 3 rfl trivial ?_
    refine pj_J.pos (by decide) ?_
    refine pj_J.go (oX1_mate G) 1 rfl trivial ?_
    refine pj_J.castY dX1_mate_28 q1256 (Or.inr ⟨_, _, ha, Or.inl ⟨rfl, rfl⟩⟩) ?_
    refine pj_J.go1 (pc := 31) (oX1_mate G) rfl (po_alenD (n := 32) ha (by decide)) trivial ?_
    exact pj_iret dX1_mate_32 rfl ⟨rfl, rfl⟩
theorem c_X1_mate3C {G : pj_G} {d : Nat} {h : pj_H} {a b : Nat} {C : String} (hi : px_is h b C) (hC : (C, "[I") ∈ px_eT) : pj_Cn G mX1_mate d [.int 3, .ref a, .ref b] h 3 1010 (px_t3 22 h) := by
  refine pj_Cn.start ?_
  refine pj_J.go (oX1_mate G) 3 rfl trivial ?_
  refine pj_J.neg (by decide) ?_
  refine pj_J.go (oX1_mate G) 3 rfl trivial ?_
  refine pj_J.neg (by decide) ?_
  refine pj_J.go (oX1_mate G) 3 rfl trivial ?_
  refine pj_J.pos (by decide) ?_
  refine pj_J.go (oX1_mate G) 1 rfl trivial ?_
  exact pj_J.raiseC (kc := 0) (ks := 0) (rc_cast dX1_mate_28 q1256 hi hC (Nat.le_of_ble_eq_true rfl)) whX1_mate (Or.inr ⟨rfl, rfl, rfl⟩)
theorem c_X1_mate4 {G : pj_G} {d : Nat} {h : pj_H} {a b N M : Nat} {z w : (Nat → Int32) ⊕ (Nat → Int64) ⊕ (Nat → UInt32) ⊕ (Nat → UInt64) ⊕ (Nat → Option Nat)} (ha : h[a]? = some (.inl (1, (N, z)))) (hb : h[b]? = some (.inl (1, (M, w)))) : pj_Rt G mX1_mate d [.int 4, .ref a, .ref b] h 0 0 (some (.int (Int32.ofNat N + Int32.ofNat M))) h := by
  refine pj_Cn.start ?_
  refine pj_J.go (oX1_mate G) 3 rfl trivial ?_
  refine pj_J.neg (by decide) ?_
  refine pj_J.go (oX1_mate G) 3 rfl trivial ?_
  refine pj_J.neg (by decide) ?_
  refine pj_J.go (oX1_mate G) 3 rfl trivial ?_
  refine pj_J.neg (by decide) ?_
  refine pj_J.go (oX1_mate G) 1 rfl trivial ?_
  refine pj_J.castY dX1_mate_34 q1257 (Or.inr ⟨_, _, ha, Or.inr (Or.inl ⟨rfl, rfl⟩)⟩) ?_
  refine pj_J.go1 (pc := 37) (oX1_mate G) rfl (po_alenD (n := 38) ha (by decide)) trivial ?_
  refine pj_J.go (oX1_mate G) 1 rfl trivial ?_
  refine pj_J.castY dX1_mate_39 q1257 (Or.inr ⟨_, _, hb, Or.inr (Or.inl ⟨rfl, rfl⟩)⟩) ?_
  refine pj_J.go1 (pc := 42) (oX1_mate G) rfl (po_alenD (n := 43) hb (by decide)) trivial ?_
  refine pj_J.go (oX1_mate G) 1 rfl trivial ?_
  exact pj_iret dX1_mate_44 rfl ⟨rfl, rfl⟩
theorem c_X1_mate4C {G : pj_G} {d : Nat} {h : pj_H} {a b N : Nat} {z : (Nat → Int32) ⊕ (Nat → Int64) ⊕ (Nat → UInt32) ⊕ (Nat → UInt64) ⊕ (Nat → Option Nat)} {C : String} (ha : h[a]? = some (.inl (1, (N, z)))) (hi : px_is h b C) (hC : (C, "[J") ∈ px_eT) : pj_Cn G mX1_mate d [.int 4, .ref a, .ref b] h 3 1010 (px_t3 22 h) := by
  refine pj_Cn.start ?_
  refine pj_J.go (oX1_mate G) 3 rfl trivial ?_
  refine pj_J.neg (by decide) ?_
  refine pj_J.go (oX1_mate G) 3 rfl trivial ?_
  refine pj_J.neg (by decide) ?_
  refine pj_J.go (oX1_mate G) 3 rfl trivial ?_
  refine pj_J.neg (by decide) ?_
  refine pj_J.go (oX1_mate G) 1 rfl trivial ?_
  refine pj_J.castY dX1_mate_34 q1257 (Or.inr ⟨_, _, ha, Or.inr (Or.inl ⟨rfl, rfl⟩)⟩) ?_
  refine pj_J.go1 (pc := 37) (oX1_mate G) rfl (po_alenD (n := 38) ha (by decide)) trivial ?_
  refine pj_J.go (oX1_mate G) 1 rfl trivial ?_
  exact pj_J.raiseC (kc := 0) (ks := 0) (rc_cast dX1_mate_39 q1257 hi hC (Nat.le_of_ble_eq_true rfl)) whX1_mate (Or.inr ⟨rfl, rfl, rfl⟩)
theorem c_X1_mate5 {G : pj_G} {d : Nat} {h : pj_H} {a b : Nat} (hi : px_is h a "PennyJudge$Image") : pj_Cn G mX1_mate d [.int 5, .ref a, .ref b] h 3 1010 (px_t3 22 h) := by
  refine pj_Cn.start ?_
  refine pj_J.go (oX1_mate G) 3 rfl trivial ?_
  refine pj_J.neg (by decide) ?_
  refine pj_J.go (oX1_mate G) 3 rfl trivial ?_
  refine pj_J.neg (by decide) ?_
  refine pj_J.go (oX1_mate G) 3 rfl trivial ?_
  refine pj_J.neg (by decide) ?_
  refine pj_J.go (oX1_mate G) 1 rfl trivial ?_
  exact pj_J.raiseC (kc := 0) (ks := 0) (rc_cast dX1_mate_34 q1257 hi (by decide) (Nat.le_of_ble_eq_true rfl)) whX1_mate (Or.inr ⟨rfl, rfl, rfl⟩)
