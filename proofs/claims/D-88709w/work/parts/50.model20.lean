/-! PennyJudgeModel: load copy triesOrder (by tools/gen_n2.py) -/
set_option maxRecDepth 100000
theorem vp_ld {t i z n : Int32} {k N : Nat} (ht : vp_in t 6) (hi : ¬ i < 0) (hz : vp_in z 65) (hn : n = nI N) (hN : N ≤ 64) (hs : n ≤ z - i) (hk : k < N) : vp_in (64 * t + i + nI k) 384 := by
  obtain ⟨a, ha, rfl⟩ := vp_in_of ht (by decide)
  obtain ⟨b, hb, rfl⟩ := vp_in_of hz (by decide)
  subst hn
  have h0 : (0 : Int32).toInt = 0 := rfl
  have hi' : 0 ≤ i.toInt := by
    rw [Int32.lt_iff_toInt_lt] at hi
    omega
  rw [Int32.le_iff_toInt_le, Int32.toInt_sub, nI_toInt (by omega), nI_toInt (by omega)] at hs
  have hlt := Int32.toInt_lt i
  have hb2 : ((b : Int) - i.toInt).bmod (2 ^ 32) = (b : Int) - i.toInt := Int.bmod_eq_of_le (by omega) (by omega)
  rw [hb2] at hs
  have e : i = nI i.toInt.toNat := by
    apply Int32.toInt_inj.mp
    rw [nI_toInt (by omega)]
    omega
  rw [e, show (64 : Int32) * nI a = nI (64 * a) from pk_mul 64 a, nI_add, nI_add]
  exact vp_in_nI (by omega) (by decide)
theorem fm_in_nI {x : Int32} {n : Nat} (h : ¬ fm_in x 0 (nI n) = 0) (hn : n + 1 < 2 ^ 31 := by decide) : ∃ N, N ≤ n ∧ x = nI N := by
  obtain ⟨j, hj, e⟩ := vp_in_of (fm_in_vp h hn) (by omega)
  exact ⟨j, by omega, e⟩
def fm_ldV (m : sx_M) (t i : Int32) (k : Nat) : Int32 := fm_isLine (sx_L m 35 (64 * t + i + nI k).toNatClampNeg)
theorem ly_fm_ldC {G : pj_G} {d : Nat} {c : sx_C} {m : sx_M} {o : Nat → Int64} {D : pj_H} {Q : pj_O → pj_H → Prop} (t i n : Int32) (N : Nat) (ht : vp_in t 6) (hi : ¬ i < 0) (hz : vp_in (sx_I m 34 t.toNatClampNeg) 65) (hn : n = nI N) (hN : N ≤ 12) (hs : n ≤ sx_I m 34 t.toNatClampNeg - i) (k : Nat) (hk : k < N) (q : fm_ldV m t i k = 0 → Q (.inl (some (.int (-3)))) (sx_mk c m o D)) (kk : ¬ fm_ldV m t i k = 0 → pj_J G mX4_load (d + 3) 88 [some (.ref 59), some (.int t), some (.int i), some (.int n), some (.int (nI k + 1))] [] (sx_mk c m o D) 0 0 Q) : pj_J G mX4_load (d + 3) 88 [some (.ref 59), some (.int t), some (.int i), some (.int n), some (.int (nI k))] [] (sx_mk c m o D) 0 0 Q := by
  refine pj_J.go (oX4_load G) 3 rfl trivial ?_
  refine pj_J.neg (by rw [hn]; exact nI_lt_lit hk (by omega)) ?_
  refine pj_J.go (oX4_load G) 10 rfl ⟨by exact vp_ld ht hi hz hn (by omega) hs hk, trivial⟩ ?_
  refine pj_J.cal0 kX4_load_108 (c_X4_isLine (sx_L m 35 ((((64 : Int32) * t) + i) + (nI k)).toNatClampNeg)) trivial pj_le0 pj_le0 pj_le0 ?_
  refine pj_J.go (oX4_load G) 1 rfl trivial ?_
  refine pj_J.ite (fun hc111 => ?_) (fun hc111 => ?_)
  · skip
    refine pj_J.go (oX4_load G) 1 rfl trivial ?_
    exact pj_iret dX4_load_116 rfl (q hc111)
  · skip
    refine pj_J.go (oX4_load G) 2 rfl trivial ?_
    exact kk hc111
theorem lz_fm_ldC {G : pj_G} {d : Nat} {c : sx_C} {m : sx_M} {o : Nat → Int64} {D : pj_H} {Q : pj_O → pj_H → Prop} (t i n : Int32) (N : Nat) (ht : vp_in t 6) (hi : ¬ i < 0) (hz : vp_in (sx_I m 34 t.toNatClampNeg) 65) (hn : n = nI N) (hN : N ≤ 12) (hs : n ≤ sx_I m 34 t.toNatClampNeg - i) (kk : pj_J G mX4_load (d + 3) 126 [some (.ref 59), some (.int t), some (.int i), some (.int n), some (.int (nI 0))] [] (sx_mk c m o D) 0 0 Q) : pj_J G mX4_load (d + 3) 88 [some (.ref 59), some (.int t), some (.int i), some (.int n), some (.int (nI N))] [] (sx_mk c m o D) 0 0 Q := by
  refine pj_J.go (oX4_load G) 3 rfl trivial ?_
  refine pj_J.pos (by rw [hn]; exact nI_ge_lit (Nat.le_refl _) (by omega)) ?_
  refine pj_J.go (oX4_load G) 2 rfl trivial ?_
  exact kk
def fm_ldL (m : sx_M) (t i : Int32) : Nat → Nat → Int32
  | 0, _ => 1
  | e + 1, k => if fm_ldV m t i k = 0 then 0 else fm_ldL m t i e (k + 1)
theorem lp_fm_ldC {G : pj_G} {d : Nat} {c : sx_C} {m : sx_M} {o : Nat → Int64} {D : pj_H} {Q : pj_O → pj_H → Prop} (t i n : Int32) (N : Nat) (ht : vp_in t 6) (hi : ¬ i < 0) (hz : vp_in (sx_I m 34 t.toNatClampNeg) 65) (hn : n = nI N) (hN : N ≤ 12) (hs : n ≤ sx_I m 34 t.toNatClampNeg - i) : ∀ (e k : Nat), k + e = N → (fm_ldL m t i e k = 0 → Q (.inl (some (.int (-3)))) (sx_mk c m o D)) → (¬ fm_ldL m t i e k = 0 → pj_J G mX4_load (d + 3) 126 [some (.ref 59), some (.int t), some (.int i), some (.int n), some (.int (nI 0))] [] (sx_mk c m o D) 0 0 Q) → pj_J G mX4_load (d + 3) 88 [some (.ref 59), some (.int t), some (.int i), some (.int n), some (.int (nI k))] [] (sx_mk c m o D) 0 0 Q := by
  intro e
  induction e with
  | zero =>
    intro k hk q kk
    have hkn : k = N := by omega
    subst hkn
    exact lz_fm_ldC t i n k ht hi hz hn hN hs (kk (by unfold fm_ldL; decide))
  | succ e ih =>
    intro k hk q kk
    refine ly_fm_ldC t i n N ht hi hz hn hN hs k (by omega) (fun h => q (by unfold fm_ldL; rw [if_pos h])) (fun h => ?_)
    rw [nI_add1]
    unfold fm_ldL at q kk
    rw [if_neg h] at q kk
    exact ih (k + 1) (by omega) q kk
def fm_ldB (t i : Int32) (k : Nat) (m : sx_M) : sx_M := sx_sI m 4 (upd (sx_I m 4) (nI k).toNatClampNeg ((sx_L m 35 ((((64 : Int32) * t) + i) + (nI k)).toNatClampNeg).toInt32))
theorem ly_fm_ldB {G : pj_G} {d : Nat} {c : sx_C} {m : sx_M} {o : Nat → Int64} {D : pj_H} {Q : pj_O → pj_H → Prop}  (t i n : Int32) (N : Nat) (ht : vp_in t 6) (hi : ¬ i < 0) (hz : vp_in (sx_I m 34 t.toNatClampNeg) 65) (hn : n = nI N) (hN : N ≤ 12) (hs : n ≤ sx_I m 34 t.toNatClampNeg - i) (k : Nat) (hk : k < N) (kk : pj_J G mX4_load (d) 126 [some (.ref 59), some (.int t), some (.int i), some (.int n), some (.int (nI k + 1))] [] (sx_mk c (fm_ldB t i k m) o D) 0 0 Q) : pj_J G mX4_load (d) 126 [some (.ref 59), some (.int t), some (.int i), some (.int n), some (.int (nI k))] [] (sx_mk c m o D) 0 0 Q := by
  unfold fm_ldB at kk
  refine pj_J.go (oX4_load G) 3 rfl trivial ?_
  refine pj_J.neg (by rw [hn]; exact nI_lt_lit hk (by omega)) ?_
  refine pj_J.go (oX4_load G) 17 rfl ⟨by exact vp_ld ht hi hz hn (by omega) hs hk, by exact vp_in_lit (by omega) (by decide), trivial⟩ ?_
  exact pj_J.drp kk ⟨rfl, rfl, rfl, rfl, rfl, trivial⟩
theorem lz_fm_ldB {G : pj_G} {d : Nat} {c : sx_C} {m : sx_M} {o : Nat → Int64} {D : pj_H} {Q : pj_O → pj_H → Prop} (t i n : Int32) (N : Nat) (hn : n = nI N) (hN : N ≤ 12) (q : Q (.inl (some (.int n))) (sx_mk c (sx_si m 3 n) o D)) : pj_J G mX4_load (d) 126 [some (.ref 59), some (.int t), some (.int i), some (.int n), some (.int (nI N))] [] (sx_mk c m o D) 0 0 Q := by
  refine pj_J.go (oX4_load G) 3 rfl trivial ?_
  refine pj_J.pos (by rw [hn]; exact nI_ge_lit (Nat.le_refl _) (by omega)) ?_
  refine pj_J.go (oX4_load G) 4 rfl trivial ?_
  exact pj_iret dX4_load_166 rfl q
theorem lp_fm_ldB {G : pj_G} {d : Nat} {c : sx_C} {m : sx_M} {o : Nat → Int64} {D : pj_H} {Q : pj_O → pj_H → Prop} (t i n : Int32) (N : Nat) (ht : vp_in t 6) (hi : ¬ i < 0) (hz : vp_in (sx_I m 34 t.toNatClampNeg) 65) (hn : n = nI N) (hN : N ≤ 12) (hs : n ≤ sx_I m 34 t.toNatClampNeg - i) (q : Q (.inl (some (.int n))) (sx_mk c (sx_si (it_up (fm_ldB t i) N 0 m) 3 n) o D)) : pj_J G mX4_load d 126 [some (.ref 59), some (.int t), some (.int i), some (.int n), some (.int (nI 0))] [] (sx_mk c m o D) 0 0 Q :=
  pj_for (fun k s => pj_J G mX4_load d 126 [some (.ref 59), some (.int t), some (.int i), some (.int n), some (.int (nI k))] [] (sx_mk c s o D) 0 0 Q) (fm_ldB t i) (fun _ s => sx_I s 34 = sx_I m 34) N (fun k s hk hi2 => ⟨hi2, fun kk => ly_fm_ldB t i n N ht hi (by rw [hi2]; exact hz) hn hN (by rw [hi2]; exact hs) k hk (by rw [nI_add1]; exact kk)⟩) N 0 m (by simp) rfl (fun _ => lz_fm_ldB t i n N hn hN q)
def fm_load (m : sx_M) (t : Int32) (i : Int32) (n : Int32) : Int32 × sx_M := if (fm_in t 0 5) = (0 : Int32) then ((-1 : Int32), m) else (if (fm_in n (0 : Int32) (12 : Int32)) = (0 : Int32) then ((-1 : Int32), m) else (if (sx_I m 33 t.toNatClampNeg) = (0 : Int32) then ((fm_refuse m (-11 : Int32)).1, ((fm_refuse m (-11 : Int32)).2)) else (if (sx_I m 33 t.toNatClampNeg) = (1 : Int32) then ((fm_refuse m (-12 : Int32)).1, ((fm_refuse m (-12 : Int32)).2)) else (if (sx_I m 33 t.toNatClampNeg) = (5 : Int32) then ((fm_refuse m (-12 : Int32)).1, ((fm_refuse m (-12 : Int32)).2)) else (if i < (0 : Int32) then ((fm_refuse m (-13 : Int32)).1, ((fm_refuse m (-13 : Int32)).2)) else (if n ≤ ((sx_I m 34 t.toNatClampNeg) - i) then (if fm_ldL m t i n.toNatClampNeg 0 = (0 : Int32) then ((-3 : Int32), m) else (n, sx_si (it_up (fm_ldB t i) n.toNatClampNeg 0 m) 3 n)) else ((fm_refuse m (-13 : Int32)).1, ((fm_refuse m (-13 : Int32)).2))))))))
theorem c_X4_load {G : pj_G} {d : Nat} {c : sx_C} {m : sx_M} {o : Nat → Int64} {D : pj_H} (t : Int32) (i : Int32) (n : Int32) (hz : ∀ k, k < 6 → vp_in (sx_I m 34 k) 65) : pj_Rt G mX4_load (d + 3) [.ref 59, .int t, .int i, .int n] (sx_mk c m o D) 0 0 (some (.int ((fm_load m t i n).1))) (sx_mk c (fm_load m t i n).2 o D) := by
  refine pj_Cn.start ?_
  refine pj_J.go (oX4_load G) 1 rfl trivial ?_
  refine pj_J.cal0 kX4_load_1 (c_X4_isTape t) trivial pj_le0 pj_le0 pj_le0 ?_
  refine pj_J.go (oX4_load G) 1 rfl trivial ?_
  refine pj_J.ite (fun hc4 => ?_) (fun hc4 => ?_)
  · skip
    refine pj_J.go (oX4_load G) 1 rfl trivial ?_
    refine pj_iret dX4_load_18 rfl ?_
    show _ = _ ∧ _ = _
    unfold fm_load
    rw [if_pos (show (fm_in t 0 5) = (0 : Int32) from hc4)]
    exact ⟨rfl, rfl⟩
  · skip
    refine pj_J.go (oX4_load G) 3 rfl trivial ?_
    refine pj_J.cal0 kX4_load_11 (c_X4_in n (0 : Int32) (12 : Int32)) trivial pj_le0 pj_le0 pj_le0 ?_
    refine pj_J.go (oX4_load G) 1 rfl trivial ?_
    refine pj_J.ite (fun hc14 => ?_) (fun hc14 => ?_)
    · skip
      refine pj_J.go (oX4_load G) 1 rfl trivial ?_
      refine pj_iret dX4_load_18 rfl ?_
      show _ = _ ∧ _ = _
      unfold fm_load
      rw [if_neg (show ¬ ((fm_in t 0 5) = (0 : Int32)) from hc4), if_pos (show (fm_in n (0 : Int32) (12 : Int32)) = (0 : Int32) from hc14)]
      exact ⟨rfl, rfl⟩
    · skip
      refine pj_J.go (oX4_load G) 5 rfl ⟨by exact fm_in_vp (n := 5) hc4, trivial⟩ ?_
      refine pj_J.ite (fun hc25 => ?_) (fun hc25 => ?_)
      · skip
        refine pj_J.go (oX4_load G) 2 rfl trivial ?_
        refine pj_J.cal0 kX4_load_31 (c_X4_refuse (m := m) (-11 : Int32)) ⟨_, _, _, rfl, rfl⟩ pj_le0 pj_le0 pj_le0 ?_
        refine pj_iret dX4_load_34 rfl ?_
        show _ = _ ∧ _ = _
        unfold fm_load
        rw [if_neg (show ¬ ((fm_in t 0 5) = (0 : Int32)) from hc4), if_neg (show ¬ ((fm_in n (0 : Int32) (12 : Int32)) = (0 : Int32)) from hc14), if_pos (show (sx_I m 33 t.toNatClampNeg) = (0 : Int32) from hc25)]
        exact ⟨rfl, rfl⟩
      · skip
        refine pj_J.go (oX4_load G) 6 rfl ⟨by exact fm_in_vp (n := 5) hc4, trivial⟩ ?_
        refine pj_J.ite (fun hc42 => ?_) (fun hc42 => ?_)
        · skip
          refine pj_J.go (oX4_load G) 2 rfl trivial ?_
          refine pj_J.cal0 kX4_load_58 (c_X4_refuse (m := m) (-12 : Int32)) ⟨_, _, _, rfl, rfl⟩ pj_le0 pj_le0 pj_le0 ?_
          refine pj_iret dX4_load_61 rfl ?_
          show _ = _ ∧ _ = _
          unfold fm_load
          rw [if_neg (show ¬ ((fm_in t 0 5) = (0 : Int32)) from hc4), if_neg (show ¬ ((fm_in n (0 : Int32) (12 : Int32)) = (0 : Int32)) from hc14), if_neg (show ¬ ((sx_I m 33 t.toNatClampNeg) = (0 : Int32)) from hc25), if_pos (show (sx_I m 33 t.toNatClampNeg) = (1 : Int32) from hc42)]
          exact ⟨rfl, rfl⟩
        · skip
          refine pj_J.go (oX4_load G) 6 rfl ⟨by exact fm_in_vp (n := 5) hc4, trivial⟩ ?_
          refine pj_J.ite (fun hc52 => ?_) (fun hc52 => ?_)
          · skip
            refine pj_J.go (oX4_load G) 2 rfl trivial ?_
            refine pj_J.cal0 kX4_load_58 (c_X4_refuse (m := m) (-12 : Int32)) ⟨_, _, _, rfl, rfl⟩ pj_le0 pj_le0 pj_le0 ?_
            refine pj_iret dX4_load_61 rfl ?_
            show _ = _ ∧ _ = _
            unfold fm_load
            rw [if_neg (show ¬ ((fm_in t 0 5) = (0 : Int32)) from hc4), if_neg (show ¬ ((fm_in n (0 : Int32) (12 : Int32)) = (0 : Int32)) from hc14), if_neg (show ¬ ((sx_I m 33 t.toNatClampNeg) = (0 : Int32)) from hc25), if_neg (show ¬ ((sx_I m 33 t.toNatClampNeg) = (1 : Int32)) from hc42), if_pos (show (sx_I m 33 t.toNatClampNeg) = (5 : Int32) from hc52)]
            exact ⟨rfl, rfl⟩
          · skip
            refine pj_J.go (oX4_load G) 2 rfl trivial ?_
            refine pj_J.ite (fun hc63 => ?_) (fun hc63 => ?_)
            · skip
              refine pj_J.go (oX4_load G) 2 rfl trivial ?_
              refine pj_J.cal0 kX4_load_81 (c_X4_refuse (m := m) (-13 : Int32)) ⟨_, _, _, rfl, rfl⟩ pj_le0 pj_le0 pj_le0 ?_
              refine pj_iret dX4_load_84 rfl ?_
              show _ = _ ∧ _ = _
              unfold fm_load
              rw [if_neg (show ¬ ((fm_in t 0 5) = (0 : Int32)) from hc4), if_neg (show ¬ ((fm_in n (0 : Int32) (12 : Int32)) = (0 : Int32)) from hc14), if_neg (show ¬ ((sx_I m 33 t.toNatClampNeg) = (0 : Int32)) from hc25), if_neg (show ¬ ((sx_I m 33 t.toNatClampNeg) = (1 : Int32)) from hc42), if_neg (show ¬ ((sx_I m 33 t.toNatClampNeg) = (5 : Int32)) from hc52), if_pos (show i < (0 : Int32) from hc63)]
              exact ⟨rfl, rfl⟩
            · skip
              refine pj_J.go (oX4_load G) 8 rfl ⟨by exact fm_in_vp (n := 5) hc4, trivial⟩ ?_
              refine pj_J.ite (fun hc75 => ?_) (fun hc75 => ?_)
              · skip
                refine pj_J.go (oX4_load G) 2 rfl trivial ?_
                obtain ⟨N, hN, hn⟩ := fm_in_nI (n := 12) hc14
                have ht := fm_in_vp (n := 5) hc4
                have eN : n.toNatClampNeg = N := by rw [hn, nI_clamp (by omega)]
                refine lp_fm_ldC t i n N ht hc63 (hz _ (vp_lt ht)) hn hN hc75 N 0 (by omega) (fun h => ?_) (fun h => lp_fm_ldB (d := d + 3) t i n N ht hc63 (hz _ (vp_lt ht)) hn hN hc75 ?_)
                · show _ = _ ∧ _ = _
                  unfold fm_load
                  rw [if_neg (show ¬ ((fm_in t 0 5) = (0 : Int32)) from hc4), if_neg (show ¬ ((fm_in n (0 : Int32) (12 : Int32)) = (0 : Int32)) from hc14), if_neg (show ¬ ((sx_I m 33 t.toNatClampNeg) = (0 : Int32)) from hc25), if_neg (show ¬ ((sx_I m 33 t.toNatClampNeg) = (1 : Int32)) from hc42), if_neg (show ¬ ((sx_I m 33 t.toNatClampNeg) = (5 : Int32)) from hc52), if_neg (show ¬ (i < (0 : Int32)) from hc63), if_pos (show n ≤ ((sx_I m 34 t.toNatClampNeg) - i) from hc75), eN, if_pos h]
                  exact ⟨rfl, rfl⟩
                · show _ = _ ∧ _ = _
                  unfold fm_load
                  rw [if_neg (show ¬ ((fm_in t 0 5) = (0 : Int32)) from hc4), if_neg (show ¬ ((fm_in n (0 : Int32) (12 : Int32)) = (0 : Int32)) from hc14), if_neg (show ¬ ((sx_I m 33 t.toNatClampNeg) = (0 : Int32)) from hc25), if_neg (show ¬ ((sx_I m 33 t.toNatClampNeg) = (1 : Int32)) from hc42), if_neg (show ¬ ((sx_I m 33 t.toNatClampNeg) = (5 : Int32)) from hc52), if_neg (show ¬ (i < (0 : Int32)) from hc63), if_pos (show n ≤ ((sx_I m 34 t.toNatClampNeg) - i) from hc75), eN, if_neg h]
                  exact ⟨rfl, rfl⟩
              · skip
                refine pj_J.go (oX4_load G) 2 rfl trivial ?_
                refine pj_J.cal0 kX4_load_81 (c_X4_refuse (m := m) (-13 : Int32)) ⟨_, _, _, rfl, rfl⟩ pj_le0 pj_le0 pj_le0 ?_
                refine pj_iret dX4_load_84 rfl ?_
                show _ = _ ∧ _ = _
                unfold fm_load
                rw [if_neg (show ¬ ((fm_in t 0 5) = (0 : Int32)) from hc4), if_neg (show ¬ ((fm_in n (0 : Int32) (12 : Int32)) = (0 : Int32)) from hc14), if_neg (show ¬ ((sx_I m 33 t.toNatClampNeg) = (0 : Int32)) from hc25), if_neg (show ¬ ((sx_I m 33 t.toNatClampNeg) = (1 : Int32)) from hc42), if_neg (show ¬ ((sx_I m 33 t.toNatClampNeg) = (5 : Int32)) from hc52), if_neg (show ¬ (i < (0 : Int32)) from hc63), if_neg (show ¬ (n ≤ ((sx_I m 34 t.toNatClampNeg) - i)) from hc75)]
                exact ⟨rfl, rfl⟩
def fm_cpA (t i : Int32) (k : Nat) (m : sx_M) : sx_M := sx_sL m 51 (vp_updL (sx_L m 51) (nI k).toNatClampNeg (sx_L m 35 ((((64 : Int32) * t) + i) + (nI k)).toNatClampNeg))
theorem ly_fm_cpA {G : pj_G} {d : Nat} {c : sx_C} {m : sx_M} {o : Nat → Int64} {D : pj_H} {Q : pj_O → pj_H → Prop}  (t i e j n : Int32) (N : Nat) (ht : vp_in t 6) (he : vp_in e 6) (hi : ¬ i < 0) (hj : ¬ j < 0) (hz : vp_in (sx_I m 34 t.toNatClampNeg) 65) (hy : vp_in (sx_I m 34 e.toNatClampNeg) 65) (hn : n = nI N) (hN : N ≤ 64) (hs : n ≤ sx_I m 34 t.toNatClampNeg - i) (hr : n ≤ sx_I m 34 e.toNatClampNeg - j) (k : Nat) (hk : k < N) (kk : pj_J G mX4_copy (d) 124 [some (.ref 59), some (.int t), some (.int i), some (.int e), some (.int j), some (.int n), some (.int (nI k + 1))] [] (sx_mk c (fm_cpA t i k m) o D) 0 0 Q) : pj_J G mX4_copy (d) 124 [some (.ref 59), some (.int t), some (.int i), some (.int e), some (.int j), some (.int n), some (.int (nI k))] [] (sx_mk c m o D) 0 0 Q := by
  unfold fm_cpA at kk
  refine pj_J.go (oX4_copy G) 3 rfl trivial ?_
  refine pj_J.neg (by rw [hn]; exact nI_lt_lit hk (by omega)) ?_
  refine pj_J.go (oX4_copy G) 16 rfl ⟨by exact vp_ld ht hi hz hn hN hs hk, by exact vp_in_lit (by omega) (by decide), trivial⟩ ?_
  exact pj_J.drp kk ⟨rfl, rfl, rfl, rfl, rfl, rfl, rfl, trivial⟩
def fm_cpB (e j : Int32) (k : Nat) (m : sx_M) : sx_M := sx_sL m 35 (vp_updL (sx_L m 35) ((((64 : Int32) * e) + j) + (nI k)).toNatClampNeg (sx_L m 51 (nI k).toNatClampNeg))
theorem ly_fm_cpB {G : pj_G} {d : Nat} {c : sx_C} {m : sx_M} {o : Nat → Int64} {D : pj_H} {Q : pj_O → pj_H → Prop}  (t i e j n : Int32) (N : Nat) (ht : vp_in t 6) (he : vp_in e 6) (hi : ¬ i < 0) (hj : ¬ j < 0) (hz : vp_in (sx_I m 34 t.toNatClampNeg) 65) (hy : vp_in (sx_I m 34 e.toNatClampNeg) 65) (hn : n = nI N) (hN : N ≤ 64) (hs : n ≤ sx_I m 34 t.toNatClampNeg - i) (hr : n ≤ sx_I m 34 e.toNatClampNeg - j) (k : Nat) (hk : k < N) (kk : pj_J G mX4_copy (d) 161 [some (.ref 59), some (.int t), some (.int i), some (.int e), some (.int j), some (.int n), some (.int (nI k + 1))] [] (sx_mk c (fm_cpB e j k m) o D) 0 0 Q) : pj_J G mX4_copy (d) 161 [some (.ref 59), some (.int t), some (.int i), some (.int e), some (.int j), some (.int n), some (.int (nI k))] [] (sx_mk c m o D) 0 0 Q := by
  unfold fm_cpB at kk
  refine pj_J.go (oX4_copy G) 3 rfl trivial ?_
  refine pj_J.neg (by rw [hn]; exact nI_lt_lit hk (by omega)) ?_
  refine pj_J.go (oX4_copy G) 16 rfl ⟨by exact vp_in_lit (by omega) (by decide), by exact vp_ld he hj hy hn hN hr hk, trivial⟩ ?_
  exact pj_J.drp kk ⟨rfl, rfl, rfl, rfl, rfl, rfl, rfl, trivial⟩
theorem lz_fm_cpA {G : pj_G} {d : Nat} {c : sx_C} {m : sx_M} {o : Nat → Int64} {D : pj_H} {Q : pj_O → pj_H → Prop} (t i e j n : Int32) (N : Nat) (hn : n = nI N) (hN : N ≤ 64) (kk : pj_J G mX4_copy d 161 [some (.ref 59), some (.int t), some (.int i), some (.int e), some (.int j), some (.int n), some (.int (nI 0))] [] (sx_mk c m o D) 0 0 Q) : pj_J G mX4_copy d 124 [some (.ref 59), some (.int t), some (.int i), some (.int e), some (.int j), some (.int n), some (.int (nI N))] [] (sx_mk c m o D) 0 0 Q := by
  refine pj_J.go (oX4_copy G) 3 rfl trivial ?_
  refine pj_J.pos (by rw [hn]; exact nI_ge_lit (Nat.le_refl _) (by omega)) ?_
  refine pj_J.go (oX4_copy G) 2 rfl trivial ?_
  exact kk
theorem lz_fm_cpB {G : pj_G} {d : Nat} {c : sx_C} {m : sx_M} {o : Nat → Int64} {D : pj_H} {Q : pj_O → pj_H → Prop} (t i e j n : Int32) (N : Nat) (hn : n = nI N) (hN : N ≤ 64) (q : Q (.inl (some (.int n))) (sx_mk c m o D)) : pj_J G mX4_copy (d) 161 [some (.ref 59), some (.int t), some (.int i), some (.int e), some (.int j), some (.int n), some (.int (nI N))] [] (sx_mk c m o D) 0 0 Q := by
  refine pj_J.go (oX4_copy G) 3 rfl trivial ?_
  refine pj_J.pos (by rw [hn]; exact nI_ge_lit (Nat.le_refl _) (by omega)) ?_
  refine pj_J.go (oX4_copy G) 1 rfl trivial ?_
  exact pj_iret dX4_copy_198 rfl q
theorem fm_cpA_I (t i : Int32) : ∀ (N k : Nat) (m : sx_M), sx_I (it_up (fm_cpA t i) N k m) 34 = sx_I m 34 := by
  intro N
  induction N with
  | zero => intro k m; rfl
  | succ N ih => intro k m; exact ih (k + 1) _
theorem lp_fm_cpB {G : pj_G} {d : Nat} {c : sx_C} {m : sx_M} {o : Nat → Int64} {D : pj_H} {Q : pj_O → pj_H → Prop} (t i e j n : Int32) (N : Nat) (ht : vp_in t 6) (he : vp_in e 6) (hi : ¬ i < 0) (hj : ¬ j < 0) (hz : vp_in (sx_I m 34 t.toNatClampNeg) 65) (hy : vp_in (sx_I m 34 e.toNatClampNeg) 65) (hn : n = nI N) (hN : N ≤ 64) (hs : n ≤ sx_I m 34 t.toNatClampNeg - i) (hr : n ≤ sx_I m 34 e.toNatClampNeg - j) (q : Q (.inl (some (.int n))) (sx_mk c (it_up (fm_cpB e j) N 0 m) o D)) : pj_J G mX4_copy d 161 [some (.ref 59), some (.int t), some (.int i), some (.int e), some (.int j), some (.int n), some (.int (nI 0))] [] (sx_mk c m o D) 0 0 Q :=
  pj_for (fun k s => pj_J G mX4_copy d 161 [some (.ref 59), some (.int t), some (.int i), some (.int e), some (.int j), some (.int n), some (.int (nI k))] [] (sx_mk c s o D) 0 0 Q) (fm_cpB e j) (fun _ s => sx_I s 34 = sx_I m 34) N (fun k s hk hi2 => ⟨hi2, fun kk => ly_fm_cpB t i e j n N ht he hi hj (by rw [hi2]; exact hz) (by rw [hi2]; exact hy) hn hN (by rw [hi2]; exact hs) (by rw [hi2]; exact hr) k hk (by rw [nI_add1]; exact kk)⟩) N 0 m (by simp) rfl (fun _ => lz_fm_cpB t i e j n N hn hN q)
theorem lp_fm_cpA {G : pj_G} {d : Nat} {c : sx_C} {m : sx_M} {o : Nat → Int64} {D : pj_H} {Q : pj_O → pj_H → Prop} (t i e j n : Int32) (N : Nat) (ht : vp_in t 6) (he : vp_in e 6) (hi : ¬ i < 0) (hj : ¬ j < 0) (hz : vp_in (sx_I m 34 t.toNatClampNeg) 65) (hy : vp_in (sx_I m 34 e.toNatClampNeg) 65) (hn : n = nI N) (hN : N ≤ 64) (hs : n ≤ sx_I m 34 t.toNatClampNeg - i) (hr : n ≤ sx_I m 34 e.toNatClampNeg - j) (q : Q (.inl (some (.int n))) (sx_mk c (it_up (fm_cpB e j) N 0 (it_up (fm_cpA t i) N 0 m)) o D)) : pj_J G mX4_copy d 124 [some (.ref 59), some (.int t), some (.int i), some (.int e), some (.int j), some (.int n), some (.int (nI 0))] [] (sx_mk c m o D) 0 0 Q :=
  pj_for (fun k s => pj_J G mX4_copy d 124 [some (.ref 59), some (.int t), some (.int i), some (.int e), some (.int j), some (.int n), some (.int (nI k))] [] (sx_mk c s o D) 0 0 Q) (fm_cpA t i) (fun _ s => sx_I s 34 = sx_I m 34) N (fun k s hk hi2 => ⟨hi2, fun kk => ly_fm_cpA t i e j n N ht he hi hj (by rw [hi2]; exact hz) (by rw [hi2]; exact hy) hn hN (by rw [hi2]; exact hs) (by rw [hi2]; exact hr) k hk (by rw [nI_add1]; exact kk)⟩) N 0 m (by simp) rfl (fun hi2 => lz_fm_cpA t i e j n N hn hN (lp_fm_cpB t i e j n N ht he hi hj (by rw [hi2]; exact hz) (by rw [hi2]; exact hy) hn hN (by rw [hi2]; exact hs) (by rw [hi2]; exact hr) q))
theorem fm_cpN {n z i : Int32} (hn : ¬ n < 0) (hi : ¬ i < 0) (hz : vp_in z 65) (hs : ¬ z - i < n) : ∃ N, N ≤ 64 ∧ n = nI N := by
  obtain ⟨b, hb, rfl⟩ := vp_in_of hz (by decide)
  have h0 : (0 : Int32).toInt = 0 := rfl
  rw [Int32.lt_iff_toInt_lt] at hn hi
  rw [Int32.lt_iff_toInt_lt, Int32.toInt_sub, nI_toInt (by omega)] at hs
  have hlt := Int32.toInt_lt i
  have hb2 : ((b : Int) - i.toInt).bmod (2 ^ 32) = (b : Int) - i.toInt := Int.bmod_eq_of_le (by omega) (by omega)
  rw [hb2] at hs
  refine ⟨n.toInt.toNat, by omega, ?_⟩
  apply Int32.toInt_inj.mp
  rw [nI_toInt (by omega)]
  omega
def fm_copy (m : sx_M) (t : Int32) (i : Int32) (e : Int32) (j : Int32) (n : Int32) : Int32 × sx_M := if (fm_in t 0 5) = (0 : Int32) then ((-1 : Int32), m) else (if (fm_in e 0 5) = (0 : Int32) then ((-1 : Int32), m) else (if (sx_I m 33 t.toNatClampNeg) = (0 : Int32) then ((fm_refuse m (-11 : Int32)).1, ((fm_refuse m (-11 : Int32)).2)) else (if (sx_I m 33 e.toNatClampNeg) = (0 : Int32) then ((fm_refuse m (-11 : Int32)).1, ((fm_refuse m (-11 : Int32)).2)) else (if (sx_I m 33 t.toNatClampNeg) = (5 : Int32) then ((fm_refuse m (-12 : Int32)).1, ((fm_refuse m (-12 : Int32)).2)) else (if (sx_I m 33 t.toNatClampNeg) = (sx_I m 33 e.toNatClampNeg) then (if n < (0 : Int32) then ((fm_refuse m (-13 : Int32)).1, ((fm_refuse m (-13 : Int32)).2)) else (if i < (0 : Int32) then ((fm_refuse m (-13 : Int32)).1, ((fm_refuse m (-13 : Int32)).2)) else (if j < (0 : Int32) then ((fm_refuse m (-13 : Int32)).1, ((fm_refuse m (-13 : Int32)).2)) else (if ((sx_I m 34 t.toNatClampNeg) - i) < n then ((fm_refuse m (-13 : Int32)).1, ((fm_refuse m (-13 : Int32)).2)) else (if n ≤ ((sx_I m 34 e.toNatClampNeg) - j) then (n, it_up (fm_cpB e j) n.toNatClampNeg 0 (it_up (fm_cpA t i) n.toNatClampNeg 0 m)) else ((fm_refuse m (-13 : Int32)).1, ((fm_refuse m (-13 : Int32)).2))))))) else ((fm_refuse m (-12 : Int32)).1, ((fm_refuse m (-12 : Int32)).2)))))))
theorem c_X4_copy {G : pj_G} {d : Nat} {c : sx_C} {m : sx_M} {o : Nat → Int64} {D : pj_H} (t : Int32) (i : Int32) (e : Int32) (j : Int32) (n : Int32) (hz : ∀ k, k < 6 → vp_in (sx_I m 34 k) 65) : pj_Rt G mX4_copy (d + 2) [.ref 59, .int t, .int i, .int e, .int j, .int n] (sx_mk c m o D) 0 0 (some (.int ((fm_copy m t i e j n).1))) (sx_mk c (fm_copy m t i e j n).2 o D) := by
  refine pj_Cn.start ?_
  refine pj_J.go (oX4_copy G) 1 rfl trivial ?_
  refine pj_J.cal0 kX4_copy_1 (c_X4_isTape t) trivial pj_le0 pj_le0 pj_le0 ?_
  refine pj_J.go (oX4_copy G) 1 rfl trivial ?_
  refine pj_J.ite (fun hc4 => ?_) (fun hc4 => ?_)
  · skip
    refine pj_J.go (oX4_copy G) 1 rfl trivial ?_
    refine pj_iret dX4_copy_15 rfl ?_
    show _ = _ ∧ _ = _
    unfold fm_copy
    rw [if_pos (show (fm_in t 0 5) = (0 : Int32) from hc4)]
    exact ⟨rfl, rfl⟩
  · skip
    refine pj_J.go (oX4_copy G) 1 rfl trivial ?_
    refine pj_J.cal0 kX4_copy_8 (c_X4_isTape e) trivial pj_le0 pj_le0 pj_le0 ?_
    refine pj_J.go (oX4_copy G) 1 rfl trivial ?_
    refine pj_J.ite (fun hc11 => ?_) (fun hc11 => ?_)
    · skip
      refine pj_J.go (oX4_copy G) 1 rfl trivial ?_
      refine pj_iret dX4_copy_15 rfl ?_
      show _ = _ ∧ _ = _
      unfold fm_copy
      rw [if_neg (show ¬ ((fm_in t 0 5) = (0 : Int32)) from hc4), if_pos (show (fm_in e 0 5) = (0 : Int32) from hc11)]
      exact ⟨rfl, rfl⟩
    · skip
      refine pj_J.go (oX4_copy G) 5 rfl ⟨by exact fm_in_vp (n := 5) hc4, trivial⟩ ?_
      refine pj_J.ite (fun hc22 => ?_) (fun hc22 => ?_)
      · skip
        refine pj_J.go (oX4_copy G) 2 rfl trivial ?_
        refine pj_J.cal0 kX4_copy_37 (c_X4_refuse (m := m) (-11 : Int32)) ⟨_, _, _, rfl, rfl⟩ pj_le0 pj_le0 pj_le0 ?_
        refine pj_iret dX4_copy_40 rfl ?_
        show _ = _ ∧ _ = _
        unfold fm_copy
        rw [if_neg (show ¬ ((fm_in t 0 5) = (0 : Int32)) from hc4), if_neg (show ¬ ((fm_in e 0 5) = (0 : Int32)) from hc11), if_pos (show (sx_I m 33 t.toNatClampNeg) = (0 : Int32) from hc22)]
        exact ⟨rfl, rfl⟩
      · skip
        refine pj_J.go (oX4_copy G) 5 rfl ⟨by exact fm_in_vp (n := 5) hc11, trivial⟩ ?_
        refine pj_J.ite (fun hc31 => ?_) (fun hc31 => ?_)
        · skip
          refine pj_J.go (oX4_copy G) 2 rfl trivial ?_
          refine pj_J.cal0 kX4_copy_37 (c_X4_refuse (m := m) (-11 : Int32)) ⟨_, _, _, rfl, rfl⟩ pj_le0 pj_le0 pj_le0 ?_
          refine pj_iret dX4_copy_40 rfl ?_
          show _ = _ ∧ _ = _
          unfold fm_copy
          rw [if_neg (show ¬ ((fm_in t 0 5) = (0 : Int32)) from hc4), if_neg (show ¬ ((fm_in e 0 5) = (0 : Int32)) from hc11), if_neg (show ¬ ((sx_I m 33 t.toNatClampNeg) = (0 : Int32)) from hc22), if_pos (show (sx_I m 33 e.toNatClampNeg) = (0 : Int32) from hc31)]
          exact ⟨rfl, rfl⟩
        · skip
          refine pj_J.go (oX4_copy G) 6 rfl ⟨by exact fm_in_vp (n := 5) hc4, trivial⟩ ?_
          refine pj_J.ite (fun hc48 => ?_) (fun hc48 => ?_)
          · skip
            refine pj_J.go (oX4_copy G) 2 rfl trivial ?_
            refine pj_J.cal0 kX4_copy_69 (c_X4_refuse (m := m) (-12 : Int32)) ⟨_, _, _, rfl, rfl⟩ pj_le0 pj_le0 pj_le0 ?_
            refine pj_iret dX4_copy_72 rfl ?_
            show _ = _ ∧ _ = _
            unfold fm_copy
            rw [if_neg (show ¬ ((fm_in t 0 5) = (0 : Int32)) from hc4), if_neg (show ¬ ((fm_in e 0 5) = (0 : Int32)) from hc11), if_neg (show ¬ ((sx_I m 33 t.toNatClampNeg) = (0 : Int32)) from hc22), if_neg (show ¬ ((sx_I m 33 e.toNatClampNeg) = (0 : Int32)) from hc31), if_pos (show (sx_I m 33 t.toNatClampNeg) = (5 : Int32) from hc48)]
            exact ⟨rfl, rfl⟩
          · skip
            refine pj_J.go (oX4_copy G) 9 rfl ⟨by exact fm_in_vp (n := 5) hc4, by exact fm_in_vp (n := 5) hc11, trivial⟩ ?_
            refine pj_J.ite (fun hc63 => ?_) (fun hc63 => ?_)
            · skip
              refine pj_J.go (oX4_copy G) 2 rfl trivial ?_
              refine pj_J.ite (fun hc75 => ?_) (fun hc75 => ?_)
              · skip
                refine pj_J.go (oX4_copy G) 2 rfl trivial ?_
                refine pj_J.cal0 kX4_copy_117 (c_X4_refuse (m := m) (-13 : Int32)) ⟨_, _, _, rfl, rfl⟩ pj_le0 pj_le0 pj_le0 ?_
                refine pj_iret dX4_copy_120 rfl ?_
                show _ = _ ∧ _ = _
                unfold fm_copy
                rw [if_neg (show ¬ ((fm_in t 0 5) = (0 : Int32)) from hc4), if_neg (show ¬ ((fm_in e 0 5) = (0 : Int32)) from hc11), if_neg (show ¬ ((sx_I m 33 t.toNatClampNeg) = (0 : Int32)) from hc22), if_neg (show ¬ ((sx_I m 33 e.toNatClampNeg) = (0 : Int32)) from hc31), if_neg (show ¬ ((sx_I m 33 t.toNatClampNeg) = (5 : Int32)) from hc48), if_pos (show (sx_I m 33 t.toNatClampNeg) = (sx_I m 33 e.toNatClampNeg) from hc63), if_pos (show n < (0 : Int32) from hc75)]
                exact ⟨rfl, rfl⟩
              · skip
                refine pj_J.go (oX4_copy G) 2 rfl trivial ?_
                refine pj_J.ite (fun hc79 => ?_) (fun hc79 => ?_)
                · skip
                  refine pj_J.go (oX4_copy G) 2 rfl trivial ?_
                  refine pj_J.cal0 kX4_copy_117 (c_X4_refuse (m := m) (-13 : Int32)) ⟨_, _, _, rfl, rfl⟩ pj_le0 pj_le0 pj_le0 ?_
                  refine pj_iret dX4_copy_120 rfl ?_
                  show _ = _ ∧ _ = _
                  unfold fm_copy
                  rw [if_neg (show ¬ ((fm_in t 0 5) = (0 : Int32)) from hc4), if_neg (show ¬ ((fm_in e 0 5) = (0 : Int32)) from hc11), if_neg (show ¬ ((sx_I m 33 t.toNatClampNeg) = (0 : Int32)) from hc22), if_neg (show ¬ ((sx_I m 33 e.toNatClampNeg) = (0 : Int32)) from hc31), if_neg (show ¬ ((sx_I m 33 t.toNatClampNeg) = (5 : Int32)) from hc48), if_pos (show (sx_I m 33 t.toNatClampNeg) = (sx_I m 33 e.toNatClampNeg) from hc63), if_neg (show ¬ (n < (0 : Int32)) from hc75), if_pos (show i < (0 : Int32) from hc79)]
                  exact ⟨rfl, rfl⟩
                · skip
                  refine pj_J.go (oX4_copy G) 2 rfl trivial ?_
                  refine pj_J.ite (fun hc84 => ?_) (fun hc84 => ?_)
                  · skip
                    refine pj_J.go (oX4_copy G) 2 rfl trivial ?_
                    refine pj_J.cal0 kX4_copy_117 (c_X4_refuse (m := m) (-13 : Int32)) ⟨_, _, _, rfl, rfl⟩ pj_le0 pj_le0 pj_le0 ?_
                    refine pj_iret dX4_copy_120 rfl ?_
                    show _ = _ ∧ _ = _
                    unfold fm_copy
                    rw [if_neg (show ¬ ((fm_in t 0 5) = (0 : Int32)) from hc4), if_neg (show ¬ ((fm_in e 0 5) = (0 : Int32)) from hc11), if_neg (show ¬ ((sx_I m 33 t.toNatClampNeg) = (0 : Int32)) from hc22), if_neg (show ¬ ((sx_I m 33 e.toNatClampNeg) = (0 : Int32)) from hc31), if_neg (show ¬ ((sx_I m 33 t.toNatClampNeg) = (5 : Int32)) from hc48), if_pos (show (sx_I m 33 t.toNatClampNeg) = (sx_I m 33 e.toNatClampNeg) from hc63), if_neg (show ¬ (n < (0 : Int32)) from hc75), if_neg (show ¬ (i < (0 : Int32)) from hc79), if_pos (show j < (0 : Int32) from hc84)]
                    exact ⟨rfl, rfl⟩
                  · skip
                    refine pj_J.go (oX4_copy G) 8 rfl ⟨by exact fm_in_vp (n := 5) hc4, trivial⟩ ?_
                    refine pj_J.ite (fun hc97 => ?_) (fun hc97 => ?_)
                    · skip
                      refine pj_J.go (oX4_copy G) 2 rfl trivial ?_
                      refine pj_J.cal0 kX4_copy_117 (c_X4_refuse (m := m) (-13 : Int32)) ⟨_, _, _, rfl, rfl⟩ pj_le0 pj_le0 pj_le0 ?_
                      refine pj_iret dX4_copy_120 rfl ?_
                      show _ = _ ∧ _ = _
                      unfold fm_copy
                      rw [if_neg (show ¬ ((fm_in t 0 5) = (0 : Int32)) from hc4), if_neg (show ¬ ((fm_in e 0 5) = (0 : Int32)) from hc11), if_neg (show ¬ ((sx_I m 33 t.toNatClampNeg) = (0 : Int32)) from hc22), if_neg (show ¬ ((sx_I m 33 e.toNatClampNeg) = (0 : Int32)) from hc31), if_neg (show ¬ ((sx_I m 33 t.toNatClampNeg) = (5 : Int32)) from hc48), if_pos (show (sx_I m 33 t.toNatClampNeg) = (sx_I m 33 e.toNatClampNeg) from hc63), if_neg (show ¬ (n < (0 : Int32)) from hc75), if_neg (show ¬ (i < (0 : Int32)) from hc79), if_neg (show ¬ (j < (0 : Int32)) from hc84), if_pos (show ((sx_I m 34 t.toNatClampNeg) - i) < n from hc97)]
                      exact ⟨rfl, rfl⟩
                    · skip
                      refine pj_J.go (oX4_copy G) 8 rfl ⟨by exact fm_in_vp (n := 5) hc11, trivial⟩ ?_
                      refine pj_J.ite (fun hc111 => ?_) (fun hc111 => ?_)
                      · skip
                        refine pj_J.go (oX4_copy G) 2 rfl trivial ?_
                        have ht := fm_in_vp (n := 5) hc4
                        have he := fm_in_vp (n := 5) hc11
                        have hs : n ≤ sx_I m 34 t.toNatClampNeg - i := Int32.not_lt.mp hc97
                        obtain ⟨N, hN, hn⟩ := fm_cpN hc75 hc79 (hz _ (vp_lt ht)) hc97
                        have eN : n.toNatClampNeg = N := by rw [hn, nI_clamp (by omega)]
                        refine lp_fm_cpA t i e j n N ht he hc79 hc84 (hz _ (vp_lt ht)) (hz _ (vp_lt he)) hn hN hs hc111 ?_
                        show _ = _ ∧ _ = _
                        unfold fm_copy
                        rw [if_neg (show ¬ ((fm_in t 0 5) = (0 : Int32)) from hc4), if_neg (show ¬ ((fm_in e 0 5) = (0 : Int32)) from hc11), if_neg (show ¬ ((sx_I m 33 t.toNatClampNeg) = (0 : Int32)) from hc22), if_neg (show ¬ ((sx_I m 33 e.toNatClampNeg) = (0 : Int32)) from hc31), if_neg (show ¬ ((sx_I m 33 t.toNatClampNeg) = (5 : Int32)) from hc48), if_pos (show (sx_I m 33 t.toNatClampNeg) = (sx_I m 33 e.toNatClampNeg) from hc63), if_neg (show ¬ (n < (0 : Int32)) from hc75), if_neg (show ¬ (i < (0 : Int32)) from hc79), if_neg (show ¬ (j < (0 : Int32)) from hc84), if_neg (show ¬ (((sx_I m 34 t.toNatClampNeg) - i) < n) from hc97), if_pos (show n ≤ ((sx_I m 34 e.toNatClampNeg) - j) from hc111), eN]
                        exact ⟨rfl, rfl⟩
                      · skip
                        refine pj_J.go (oX4_copy G) 2 rfl trivial ?_
                        refine pj_J.cal0 kX4_copy_117 (c_X4_refuse (m := m) (-13 : Int32)) ⟨_, _, _, rfl, rfl⟩ pj_le0 pj_le0 pj_le0 ?_
                        refine pj_iret dX4_copy_120 rfl ?_
                        show _ = _ ∧ _ = _
                        unfold fm_copy
                        rw [if_neg (show ¬ ((fm_in t 0 5) = (0 : Int32)) from hc4), if_neg (show ¬ ((fm_in e 0 5) = (0 : Int32)) from hc11), if_neg (show ¬ ((sx_I m 33 t.toNatClampNeg) = (0 : Int32)) from hc22), if_neg (show ¬ ((sx_I m 33 e.toNatClampNeg) = (0 : Int32)) from hc31), if_neg (show ¬ ((sx_I m 33 t.toNatClampNeg) = (5 : Int32)) from hc48), if_pos (show (sx_I m 33 t.toNatClampNeg) = (sx_I m 33 e.toNatClampNeg) from hc63), if_neg (show ¬ (n < (0 : Int32)) from hc75), if_neg (show ¬ (i < (0 : Int32)) from hc79), if_neg (show ¬ (j < (0 : Int32)) from hc84), if_neg (show ¬ (((sx_I m 34 t.toNatClampNeg) - i) < n) from hc97), if_neg (show ¬ (n ≤ ((sx_I m 34 e.toNatClampNeg) - j)) from hc111)]
                        exact ⟨rfl, rfl⟩
            · skip
              refine pj_J.go (oX4_copy G) 2 rfl trivial ?_
              refine pj_J.cal0 kX4_copy_69 (c_X4_refuse (m := m) (-12 : Int32)) ⟨_, _, _, rfl, rfl⟩ pj_le0 pj_le0 pj_le0 ?_
              refine pj_iret dX4_copy_72 rfl ?_
              show _ = _ ∧ _ = _
              unfold fm_copy
              rw [if_neg (show ¬ ((fm_in t 0 5) = (0 : Int32)) from hc4), if_neg (show ¬ ((fm_in e 0 5) = (0 : Int32)) from hc11), if_neg (show ¬ ((sx_I m 33 t.toNatClampNeg) = (0 : Int32)) from hc22), if_neg (show ¬ ((sx_I m 33 e.toNatClampNeg) = (0 : Int32)) from hc31), if_neg (show ¬ ((sx_I m 33 t.toNatClampNeg) = (5 : Int32)) from hc48), if_neg (show ¬ ((sx_I m 33 t.toNatClampNeg) = (sx_I m 33 e.toNatClampNeg)) from hc63)]
              exact ⟨rfl, rfl⟩
def fm_toB (k : Nat) (m : sx_M) : sx_M := sx_sI m 18 (upd (sx_I m 18) (nI k).toNatClampNeg (sx_I m 4 (sx_I m 46 (nI k).toNatClampNeg).toNatClampNeg))
theorem ly_fm_toB {G : pj_G} {d : Nat} {c : sx_C} {m : sx_M} {o : Nat → Int64} {D : pj_H} {Q : pj_O → pj_H → Prop}  (p : Int32) (n : Nat) (hn : n ≤ 6) (en : sx_i m 3 = nI n) (hpl : ∀ k, k < n → vp_in (sx_I m 46 k) 12) (k : Nat) (hk : k < n) (kk : pj_J G mX4_triesOrder (d) 10 [some (.ref 59), some (.int p), some (.int (nI k + 1))] [] (sx_mk c (fm_toB k m) o D) 0 0 Q) : pj_J G mX4_triesOrder (d) 10 [some (.ref 59), some (.int p), some (.int (nI k))] [] (sx_mk c m o D) 0 0 Q := by
  unfold fm_toB at kk
  refine pj_J.go (oX4_triesOrder G) 4 rfl trivial ?_
  refine pj_J.neg (by rw [en]; exact nI_lt_lit hk (by omega)) ?_
  refine pj_J.go (oX4_triesOrder G) 13 rfl ⟨by exact vp_in_lit (by omega) (by decide), by exact (by have := hpl k hk; rw [nI_clamp (by omega)]; exact this), by exact vp_in_lit (by omega) (by decide), trivial⟩ ?_
  exact pj_J.drp kk ⟨rfl, rfl, rfl, trivial⟩
theorem lz_fm_toB {G : pj_G} {d : Nat} {c : sx_C} {m : sx_M} {o : Nat → Int64} {D : pj_H} {Q : pj_O → pj_H → Prop} (p r : Int32) (m1 : sx_M) (n : Nat) (hn : n ≤ 6) (en : sx_i m 3 = nI n) (hr : r = 0 ∨ r = 1) (ct : pj_Rt G mX4_tries d [.ref 59, .int p] (sx_mk c m o D) 0 0 (some (.int r)) (sx_mk c m1 o D)) (q : Q (.inl (some (.int r))) (sx_mk c m1 o D)) : pj_J G mX4_triesOrder (d + 1) 10 [some (.ref 59), some (.int p), some (.int (nI n))] [] (sx_mk c m o D) 0 0 Q := by
  refine pj_J.go (oX4_triesOrder G) 4 rfl trivial ?_
  refine pj_J.pos (by rw [en]; exact nI_ge_lit (Nat.le_refl _) (by omega)) ?_
  refine pj_J.go (oX4_triesOrder G) 2 rfl trivial ?_
  refine pj_J.cal0 kX4_triesOrder_43 (ct) ⟨_, _, _, rfl, rfl⟩ pj_le0 pj_le0 pj_le0 ?_
  exact pj_zret dX4_triesOrder_46 rfl (hr) q
def fm_to0 (m : sx_M) (n : Nat) : sx_M := it_up fm_toB n 0 (sx_si m 17 (sx_i m 3))
theorem c_X4_triesOrder {G : pj_G} {d : Nat} {c : sx_C} {m : sx_M} {o : Nat → Int64} {D : pj_H} (p : Int32) (n : Nat) (hn : n ≤ 6) (en : sx_i m 3 = nI n) (hpl : ∀ k, k < n → vp_in (sx_I m 46 k) 12) (r : Int32) (m1 : sx_M) (hr : r = 0 ∨ r = 1) (ct : pj_Rt G mX4_tries (d + 7) [.ref 59, .int p] (sx_mk c (fm_to0 m n) o D) 0 0 (some (.int r)) (sx_mk c m1 o D)) : pj_Rt G mX4_triesOrder (d + 8) [.ref 59, .int p] (sx_mk c m o D) 0 0 (some (.int r)) (sx_mk c m1 o D) := by
  refine pj_Cn.start ?_
  refine pj_J.go (oX4_triesOrder G) 6 rfl trivial ?_
  exact pj_for (fun k s => pj_J G mX4_triesOrder (d + 8) 10 [some (.ref 59), some (.int p), some (.int (nI k))] [] (sx_mk c s o D) 0 0 _) fm_toB (fun _ s => sx_i s 3 = sx_i m 3 ∧ sx_I s 46 = sx_I m 46) n (fun k s hk hi => ⟨hi, fun kk => ly_fm_toB p n hn (by rw [hi.1]; exact en) (by rw [hi.2]; exact hpl) k hk (by rw [nI_add1]; exact kk)⟩) n 0 (sx_si m 17 (sx_i m 3)) (by simp) ⟨rfl, rfl⟩ (fun hi => lz_fm_toB (d := d + 7) p r m1 n hn (by rw [hi.1]; exact en) hr ct ⟨rfl, rfl⟩)
