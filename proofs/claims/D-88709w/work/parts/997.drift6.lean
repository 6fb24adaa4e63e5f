/-! drift: both answers are the same. Own work. -/
set_option maxRecDepth 100000
theorem iv_mv {c : sx_C} {m W Y : sx_M} (h : iv c m) (w1 : sx_i W = sx_i c.1) (w2 : ∀ i, i < 19 → sx_I W i = sx_I c.1 i) (w3 : sx_L W = sx_L c.1) (y1 : ∀ i, i ≠ 0 → sx_i Y i = sx_i m i) (y2 : ∀ i, i ≠ 50 → sx_I Y i = sx_I m i) (y3 : ∀ i, i ≠ 48 → i ≠ 49 → sx_L Y i = sx_L m i) : iv (sx_sM c W) Y := by
  obtain ⟨x1, ⟨nl, hnl, l1⟩, h3, h4, h5, h6, h7, h8, h9, h10, h11, h12, h13⟩ := h
  have e1 : (sx_sM c W).1 = W := rfl
  refine ⟨?_, ⟨nl, hnl, ?_⟩, ?_, ?_, fun k hk => ?_, ?_, ?_, ?_, ?_, ?_, h11, h12, h13⟩
  · unfold rl_w
    rw [e1, w2 0 (by decide), w2 1 (by decide), w2 5 (by decide), w2 4 (by decide), y2 1 (by decide), y2 2 (by decide), y2 5 (by decide), y2 6 (by decide)]
    exact x1
  · unfold ln
    rw [e1, w1, w2 2 (by decide), y1 3 (by decide), y2 4 (by decide)]
    exact l1
  · rw [e1, w1, y1 7 (by decide)]; exact h3
  · rw [y1 7 (by decide)]; exact h4
  · rw [e1, w3, y3 23 (by decide) (by decide)]; exact h5 k hk
  · rw [e1, w1, y1 13 (by decide)]; exact h6
  · rw [e1, w1, y1 14 (by decide)]; exact h7
  · rw [e1, w1, y1 15 (by decide)]; exact h8
  · unfold rl_h
    rw [y1 16 (by decide), y2 26 (by decide)]; exact h9
  · unfold rl_s
    rw [y3 19 (by decide) (by decide), y3 20 (by decide) (by decide), y3 21 (by decide) (by decide), y3 22 (by decide) (by decide), y2 26 (by decide)]
    exact h10
theorem dr_no {c : sx_C} {m : sx_M} (h : iv c m) {rt md n mo wh : Int32} (hg : ¬ fc_drGood c.1 rt md n mo wh) : fm_drift m rt md n mo wh = (0, sx_si m 0 1) := by
  have : fm_drGood m rt md n mo wh = 0 := by
    unfold fm_drGood
    by_cases a1 : fm_in rt 0 7 = 0
    · rw [if_pos a1]
    rw [if_neg a1]
    have b1 := wi_b a1
    obtain ⟨r, hr, er⟩ := vp_in_of (wi_vp (n := 7) (by decide) rfl a1) (by decide)
    by_cases a2 : 100 < sx_I m 2 rt.toNatClampNeg
    · rw [if_pos a2]
    rw [if_neg a2]
    by_cases a3 : fm_in md 0 5 = 0
    · rw [if_pos a3]
    rw [if_neg a3]
    have b3 := wi_b a3
    by_cases a4 : fm_in n 1 12 = 0
    · rw [if_pos a4]
    rw [if_neg a4]
    have b4 := wi_b a4
    by_cases a5 : fm_in mo 0 1000 = 0
    · rw [if_pos a5]
    rw [if_neg a5]
    have b5 := wi_b a5
    by_cases a6 : fm_in wh 0 1 = 0
    · rw [if_pos a6]
    rw [if_neg a6]
    have b6 := wi_b a6
    exfalso
    apply hg
    have e2 : sx_I m 2 rt.toNatClampNeg = sx_I c.1 1 rt.toNatClampNeg := by
      rw [er, rl_c (show r < 100000 by omega)]
      exact (h.1.1 r hr).2.1.symm
    rw [e2] at a2
    have c0 : (0 : Int32).toInt = 0 := rfl
    have c7 : (7 : Int32).toInt = 7 := rfl
    have c5 : (5 : Int32).toInt = 5 := rfl
    have c1 : (1 : Int32).toInt = 1 := rfl
    have c12 : (12 : Int32).toInt = 12 := rfl
    have cm : (1000 : Int32).toInt = 1000 := rfl
    refine ⟨?_, ?_, a2, ?_, ?_, ?_, ?_, ?_, ?_, ?_, ?_⟩
    all_goals first | (rw [Int32.lt_iff_toInt_lt]; omega) | (rw [Int32.le_iff_toInt_le]; omega)
  unfold fm_drift
  rw [if_pos this]
theorem dr_yes {c : sx_C} {m : sx_M} (h : iv c m) {rt md n mo wh : Int32} (hg : fc_drGood c.1 rt md n mo wh) :
    ∃ (q pp N S M : Nat), sx_I c.1 1 rt.toNatClampNeg = nI q ∧ sx_I c.1 0 rt.toNatClampNeg = nI pp ∧ S ≤ 2600 ∧ N ≤ 12 ∧ n = nI N ∧ M ≤ 1000 ∧ ¬ nI q = 0 ∧ ¬ (nI q).toInt64 = 0 ∧ (n * (nI q - 1) + 1) * 2 = nI S ∧ (if 2 * nI q - 1 ≤ mo then 2 * nI q - 1 else mo) = nI M ∧ fc_drOk (nI q) (nI pp) mo N M (fun i => (i * (q - 1) + 1) * 2) ∧
      fc_drVal (nI q) md wh S (fc_drAll (nI q) (nI pp) md S N M (fun i => (i * (q - 1) + 1) * 2) c.1) = (fm_drift m rt md n mo wh).1 ∧ sx_i (fm_drift m rt md n mo wh).2 0 = 0 ∧
      iv (sx_sM c (fc_drAll (nI q) (nI pp) md S N M (fun i => (i * (q - 1) + 1) * 2) c.1)) (fm_drift m rt md n mo wh).2 ∧ af m (fm_drift m rt md n mo wh).2 ∧ pf m (fm_drift m rt md n mo wh).2 := by
  obtain ⟨g1, g2, g3, g4, g5, g6, g7, g8, g9, g10, g11⟩ := hg
  obtain ⟨r, hr, er⟩ := vp_in_of (in_vp (n := 7) (by decide) g1 g2) (by decide)
  obtain ⟨w1, w2, w3, w4, w5, w6⟩ := h.1.1 r hr
  have cr : rt.toNatClampNeg = r := by rw [er, rl_c (show r < 100000 by omega)]
  rw [cr] at g3 ⊢
  have c0 : (0 : Int32).toInt = 0 := rfl
  have c1 : (1 : Int32).toInt = 1 := rfl
  have c5 : (5 : Int32).toInt = 5 := rfl
  have c12 : (12 : Int32).toInt = 12 := rfl
  have c100 : (100 : Int32).toInt = 100 := rfl
  have cm : (1000 : Int32).toInt = 1000 := rfl
  rw [Int32.lt_iff_toInt_lt] at g3 g4 g5 g6 g7 g8 g9 g10
  rw [Int32.le_iff_toInt_le] at g11
  have toN : ∀ x : Int32, 0 ≤ x.toInt → x.toInt ≤ 100000 → ∃ k : Nat, x = nI k ∧ (k : Int) = x.toInt := fun x a b => by
    refine ⟨x.toInt.toNat, ?_, by omega⟩
    apply Int32.toInt_inj.mp
    rw [nI_toInt (by omega)]; omega
  obtain ⟨q, eq, hq⟩ := toN (sx_I c.1 1 r) (by omega) (by omega)
  obtain ⟨pp, ep, hp⟩ := toN (sx_I c.1 0 r) (by omega) (by omega)
  obtain ⟨N, en, hN⟩ := toN n (by omega) (by omega)
  obtain ⟨X, ex, hX⟩ := toN mo (by omega) (by omega)
  have q1 : 1 ≤ q := by omega
  have q100 : q ≤ 100 := by omega
  have p4 : pp ≤ 10000 := by omega
  have N12 : N ≤ 12 := by omega
  have X1000 : X ≤ 1000 := by omega
  have m1 : N * (q - 1) ≤ 12 * 99 := Nat.mul_le_mul N12 (by omega)
  have hw : wh = 0 ∨ wh = 1 := by
    rcases (by omega : wh.toInt = 0 ∨ wh.toInt = 1) with e | e
    · exact Or.inl (Int32.toInt_inj.mp e)
    · exact Or.inr (Int32.toInt_inj.mp e)
  have hq1 : nI q - 1 = nI (q - 1) := by rw [show (1 : Int32) = nI 1 from rfl]; exact pk_sub q1
  have h2q : 2 * nI q = nI (2 * q) := pk_mul 2 q
  have h2q1 : 2 * nI q - 1 = nI (2 * q - 1) := by rw [h2q, show (1 : Int32) = nI 1 from rfl]; exact pk_sub (by omega)
  generalize hS : (N * (q - 1) + 1) * 2 = S
  generalize hM : min (2 * q - 1) X = M
  have MX : M ≤ X := by omega
  have Mp : M * pp ≤ 199 * 10000 := Nat.mul_le_mul (by omega) p4
  obtain ⟨v1, v2, v3⟩ := dr_all (q := q) (pp := pp) (M := M) (S := S) (N := N) (md := md) (wh := wh) (u := c.1) q1 q100 (by omega) N12 hS.symm hw
  have good : fm_drGood m rt md n mo wh = 1 := by
    unfold fm_drGood
    rw [cr, ← w2, in_yes g1 g2, if_neg (by decide : ¬ (1 : Int32) = 0), if_neg (by rw [Int32.lt_iff_toInt_lt]; exact g3), in_yes (by rw [Int32.lt_iff_toInt_lt]; exact g4) (by rw [Int32.lt_iff_toInt_lt]; exact g5), if_neg (by decide : ¬ (1 : Int32) = 0), in_yes (by rw [Int32.lt_iff_toInt_lt]; exact g6) (by rw [Int32.lt_iff_toInt_lt]; exact g7), if_neg (by decide : ¬ (1 : Int32) = 0), in_yes (by rw [Int32.lt_iff_toInt_lt]; exact g8) (by rw [Int32.lt_iff_toInt_lt]; exact g9), if_neg (by decide : ¬ (1 : Int32) = 0), in_yes (by rw [Int32.lt_iff_toInt_lt]; exact g10) (by rw [Int32.lt_iff_toInt_lt]; omega), if_neg (by decide : ¬ (1 : Int32) = 0)]
  have ES : ∀ sg, fm_drS m rt md n mo sg = fm_drZ (sx_si m 0 0) md (nI pp) (nI q) (nI (2 * q)) sg (2 * q) N X := fun sg => by
    unfold fm_drS
    rw [cr, ← w1, ← w2, eq, ep, h2q, en, ex, rl_c (show 2 * q < 100000 by omega), rl_c (show N < 100000 by omega), rl_c (show X < 100000 by omega)]
  have EV : ∀ sg, fm_drV m rt md n mo sg = (sg * (it_up (fm_drD (fm_drZ (sx_si m 0 0) md (nI pp) (nI q) (nI (2 * q)) sg (2 * q) N X) md (nI q) sg) (2 * q) 0 (-1099511627776)) / (nI q).toInt64).toInt32 := fun sg => by
    unfold fm_drV
    rw [ES, cr, ← w2, eq, h2q, rl_c (show 2 * q < 100000 by omega)]
  have EF : fm_drift m rt md n mo wh = (fm_drV m rt md n mo (if wh = 0 then 1 else -1), fm_drS m rt md n mo (if wh = 0 then 1 else -1)) := by
    unfold fm_drift
    rw [if_neg (by rw [good]; decide)]
  have toX : ∀ l, Rc M N l → Rc X N l := fun l hl => ⟨hl.1, fun a ha => by have := hl.2 a ha; omega⟩
  have toM : ∀ l, Rc X N l → Rc M N (l.map (· % (2 * q))) := fun l hl => ⟨by rw [List.length_map]; exact hl.1, fun a ha => by
    obtain ⟨b, hb, rfl⟩ := List.mem_map.mp ha
    have h1 := hl.2 b hb
    have h2 := Nat.mod_lt b (show 0 < 2 * q by omega)
    have h3 := Nat.mod_le b (2 * q)
    show b % (2 * q) ≤ M
    omega⟩
  have D : ∀ (sg : Int64) (s : Int), sg.toInt = s → (s = 1 ∨ s = -1) → (∃ l, Rc X N l ∧ (fm_drV m rt md n mo sg).toInt = dl q pp md l) ∧ (∀ l, Rc X N l → s * dl q pp md l ≤ s * (fm_drV m rt md n mo sg).toInt) ∧ mf (sx_si m 0 0) (fm_drS m rt md n mo sg) := fun sg s h1 h2 => by
    rw [EV, ES]
    exact dm_all (q := q) (pp := pp) (X := X) (N := N) (md := md) (sg := sg) (s := s) (m := sx_si m 0 0) q1 q100 p4 X1000 N12 h1 h2
  have fin : fc_drVal (nI q) md wh S (fc_drAll (nI q) (nI pp) md S N M (fun i => (i * (q - 1) + 1) * 2) c.1) = (fm_drift m rt md n mo wh).1 ∧ mf (sx_si m 0 0) (fm_drift m rt md n mo wh).2 := by
    rw [EF]
    obtain ⟨l1, r1, e1⟩ := v1
    rcases hw with rfl | rfl
    · rw [if_pos rfl]
      obtain ⟨⟨l2, r2, e2⟩, d2, d3⟩ := D 1 1 rfl (Or.inl rfl)
      refine ⟨?_, d3⟩
      apply Int32.toInt_inj.mp
      have a := (v2 _ (toM l2 r2)).1 rfl
      have b := d2 l1 (toX l1 r1)
      rw [dl_map] at a
      rw [Int.one_mul, Int.one_mul] at b
      dsimp only
      omega
    · rw [if_neg (by decide : ¬ (1 : Int32) = 0)]
      obtain ⟨⟨l2, r2, e2⟩, d2, d3⟩ := D (-1) (-1) rfl (Or.inr rfl)
      refine ⟨?_, d3⟩
      apply Int32.toInt_inj.mp
      have a := (v2 _ (toM l2 r2)).2 rfl
      have b := d2 l1 (toX l1 r1)
      rw [dl_map] at a
      dsimp only
      omega
  obtain ⟨f1, f2⟩ := fin
  refine ⟨q, pp, N, S, M, eq, ep, by omega, N12, en, by omega, nI_ne0 (by omega) (by omega), ?_, ?_, ?_, ?_, f1, ?_, ?_, ?_, ?_⟩
  · intro z
    have := congrArg Int64.toInt z
    rw [nI_64 (by omega), lN_I (by omega), pn_l0] at this
    omega
  · rw [en, hq1, pk_mul, nI_1, show (2 : Int32) = nI 2 from rfl, pk_mul, hS]
  · rw [h2q1, ex]
    by_cases c2 : 2 * q - 1 ≤ X
    · rw [if_pos (nI_le c2 (by omega))]; congr 1; omega
    · rw [if_neg (nI_ge (by omega) (by omega))]; congr 1; omega
  · intro k hk
    have mk : k * (q - 1) ≤ 12 * 99 := Nat.mul_le_mul (by omega) (by omega)
    refine ⟨by dsimp only; omega, by rw [hq1, pk_mul, nI_1, show (2 : Int32) = nI 2 from rfl, pk_mul], fun j hj k2 hk2 => ?_⟩
    dsimp only at hk2
    have jp : j * pp ≤ 199 * 10000 := Nat.mul_le_mul (by omega) p4
    obtain ⟨a1, a2, _⟩ := sp_args (md := md) (q := q) (pp := pp) (a := j) q1 q100 (by omega)
    rw [a1, a2]
    have st := sT_lt (pp := pp) (a := j) (i := k) q1 hk2
    have ml : (k + 1) * (q - 1) ≤ 12 * 99 := Nat.mul_le_mul (by omega) (by omega)
    have rq : yR q pp j < q := Nat.mod_lt _ q1
    have oq : yO q pp j < 2 := Nat.mod_lt _ (by decide)
    rw [show (2 : Int32) = nI 2 from rfl, pk_div (by omega) (by decide) (by decide), pk_andN (by omega) 1 rfl, nI_add, nI_add, pk_andN (by omega) 1 rfl, pk_mul, nI_add]
    refine vp_in_nI ?_ (by decide)
    unfold sT at st
    have : (k2 / 2 + yR q pp j) * 2 + (k2 % 2 + yO q pp j) % 2 ^ 1 = (k2 / 2 + yR q pp j) * 2 + (k2 % 2 + yO q pp j) % 2 := rfl
    omega
  · rw [f2.1]; rfl
  · exact iv_mv h v3.1 v3.2.1 v3.2.2 (fun i hi => by rw [f2.1, rg_ii, if_neg hi]) f2.2.1 f2.2.2
  · obtain ⟨u1, u2, u3⟩ := f2
    exact ⟨fun i a b => u2 i (by omega), fun i a => u3 i (by omega) (by omega)⟩
  · obtain ⟨u1, u2, u3⟩ := f2
    exact ⟨fun i a b => u2 i (by omega), u3 24 (by decide) (by decide), u3 25 (by decide) (by decide), by rw [u1]; rfl⟩
