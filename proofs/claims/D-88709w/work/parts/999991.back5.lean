/-! back: the whole. Own work. -/
set_option maxRecDepth 100000
theorem lz_bk {G : pj_G} {dd : Nat} {c : sx_C} {m : sx_M} {o : Nat → Int64} {D : pj_H} {Q : pj_O → pj_H → Prop} {kc ks : Nat} (t l j : Int32) {i0 : Nat} {x y z p : Value} (hi : D[i0]? = some (.inr (18, [x, y, z, .int l, p]))) (q : Q (.inl (some (.int l))) (sx_mk (sx_sM c (sx_si c.1 9 l)) m o D)) : pj_J G mX1_back dd 152 [some (.ref 2), some (.int t), some (.ref (i0 + 98)), some (.int j)] [] (sx_mk c m o D) kc ks Q := by
  refine pj_J.go (oX1_back G) 2 rfl trivial ?_
  refine pj_J.go1 (pc := 154) (oX1_back G) rfl (po_getD (lo := 18) (hi := 18) (k := 3) (n := 157) (by exact hi) (by decide) (by rfl)) trivial ?_
  refine pj_J.go (oX1_back G) 3 rfl trivial ?_
  exact pj_iret dX1_back_164 rfl q
theorem c_X1_backG {G : pj_G} {d : Nat} {c : sx_C} {m : sx_M} {o : Nat → Int64} {D : pj_H} (k : Int32) (hg : ¬ fc_isTape c.1 k = 0) (hv : vp_in k 6) (M : Nat) {i0 ia ni di : Nat} {l q : Int32} {a nn dn : Nat → Int64} (ht : sx_T c k.toNatClampNeg = some (i0 + 98)) (ha : D[ia]? = some (.inl (1, (8, .inr (.inl a))))) (hq : q ≤ sx_i c.1 7) (hM : sx_i c.1 7 = nI M) (hM4 : M ≤ 4) (hI : fc_bkI c M i0 ni di (.ref (ia + 98)) (.int l) q nn dn D) :
    pj_Rt G mX1_back (d + 1) [.ref 2, .int k] (sx_mk c m o D) 0 0 (some (.int l)) (sx_mk (sx_sM c (sx_si (it_up (fc_bkA a) 8 0 c.1) 9 l)) m o (it_up (fc_bkD (sx_sM c (it_up (fc_bkA a) 8 0 c.1)) q nn dn) M 0 D)) := by
  refine pj_Cn.start ?_
  refine pj_J.go (oX1_back G) 2 rfl trivial ?_
  refine pj_J.cal0 kX1_back_2 (c_X1_isTape (c := c) k) ⟨_, _, _, rfl, rfl⟩ pj_le0 pj_le0 pj_le0 ?_
  refine pj_J.go (oX1_back G) 1 rfl trivial ?_
  refine pj_J.neg hg ?_
  refine pj_J.go (oX1_back G) 4 rfl ⟨by exact hv, trivial⟩ ?_
  refine pj_J.seq (show va_rf (sx_tr k.toNatClampNeg) :: _ = .ref (53 + k.toNatClampNeg) :: _ by rw [(sx_tr_at hv).1]; rfl) ?_
  refine pj_J.go1 (pc := 16) (oX1_back G) rfl (po_getD (lo := 2) (hi := 2) (k := 0) (n := 19) (by exact sx_tp (sx_tr_at hv).2) (by decide) (by rfl)) trivial ?_
  refine pj_J.seq (show va_rf (sx_T c k.toNatClampNeg) :: _ = .ref (i0 + 98) :: _ by rw [ht]; rfl) ?_
  refine pj_J.castY (C := "PennyJudge$Image") dX1_back_19 q1132 (Or.inl ⟨18, _, _, _, by decide, hI.1, rfl⟩) ?_
  refine pj_J.go (oX1_back G) 2 rfl trivial ?_
  refine pj_J.go1 (pc := 24) (oX1_back G) rfl (po_getD (lo := 18) (hi := 18) (k := 4) (n := 27) (by exact hI.1) (by decide) (by rfl)) trivial ?_
  refine pj_J.go (oX1_back G) 3 rfl trivial ?_
  refine pj_J.pos hq ?_
  refine pj_J.go (oX1_back G) 3 rfl trivial ?_
  refine pj_J.drop (L' := [some (.ref 2), some (.int k), some (.ref (i0 + 98)), some (.int (nI 0))]) ⟨rfl, rfl, rfl, rfl, trivial⟩ ?_
  refine lp_bkA k hI.1 ha ?_
  have e7 : sx_i (it_up (fc_bkA a) 8 0 c.1) 7 = nI M := hM
  generalize it_up (fc_bkA a) 8 0 c.1 = u at e7 ⊢
  refine pj_J.go (oX1_back G) 2 rfl trivial ?_
  refine pj_J.drop (L' := [some (.ref 2), some (.int k), some (.ref (i0 + 98)), some (.int (nI 0))]) ⟨rfl, rfl, rfl, rfl, trivial⟩ ?_
  refine lp_bkB (c := sx_sM c u) M k q e7 hM4 hI (fun hI' => ?_)
  generalize it_up (fc_bkD (sx_sM c u) q nn dn) M 0 D = D' at hI' ⊢
  exact lz_bk (c := sx_sM c u) k l _ hI'.1 ⟨rfl, rfl⟩
