/-! load: the loop over wide, its end by a throw, its answers. Own work. -/
set_option maxRecDepth 100000
/-- cell a is a row of shorts, ints or longs, of N elements, read as longs: g -/
def fc_wd (h : pj_H) (a N : Nat) (g : Nat → Int64) : Prop := (∃ f : Nat → Int32, h[a]? = some (.inl (5, (N, .inl f))) ∧ g = fun j => (f j).toInt64) ∨ (∃ f : Nat → Int32, h[a]? = some (.inl (0, (N, .inl f))) ∧ g = fun j => (f j).toInt64) ∨ h[a]? = some (.inl (1, (N, .inr (.inl g))))
theorem fc_wd.mk {c : sx_C} {m : sx_M} {o : Nat → Int64} {D : pj_H} {i N : Nat} {g : Nat → Int64} (h : fc_wd D i N g) : fc_wd (sx_mk c m o D) (i + 98) N g := h
theorem c_X1_wideW {G : pj_G} {d : Nat} {h : pj_H} {a N : Nat} {g : Nat → Int64} (hw : fc_wd h a N g) (i : Int32) (hin : vp_in i N) : pj_Rt G mX1_wide d [.ref a, .int i] h 0 0 (some (.long (g i.toNatClampNeg))) h := by
  rcases hw with ⟨f, ha, rfl⟩ | ⟨f, ha, rfl⟩ | ha
  · exact c_X1_wide_S ha i hin
  · exact c_X1_wide_I ha i hin
  · exact c_X1_wide_J ha i hin
theorem c_X1_wideO {G : pj_G} {d : Nat} {h : pj_H} {a N : Nat} {g : Nat → Int64} (hw : fc_wd h a N g) (i : Int32) (hN : N < 2 ^ 31) (hin : ¬ vp_in i N) : pj_Cn G mX1_wide d [.ref a, .int i] h 3 1010 (px_t3 23 h) := by
  rcases hw with ⟨f, ha, rfl⟩ | ⟨f, ha, rfl⟩ | ha
  · exact c_X1_wide_SO ha i hN hin
  · exact c_X1_wide_IO ha i hN hin
  · exact c_X1_wide_JO ha i hN hin
theorem c_X1_lengthW {G : pj_G} {d : Nat} {h : pj_H} {a N : Nat} {g : Nat → Int64} (hw : fc_wd h a N g) : pj_Rt G mX1_lengthOf d [.ref a] h 0 0 (some (.int (Int32.ofNat N))) h := by
  rcases hw with ⟨f, ha, rfl⟩ | ⟨f, ha, rfl⟩ | ha
  · exact c_X1_lengthOf_S ha
  · exact c_X1_lengthOf_I ha
  · exact c_X1_lengthOf_J ha
def fc_ldA (g : Nat → Int64) (f : Int32) (j : Nat) (s : sx_M × Int32) : sx_M × Int32 := if g (f + nI j).toNatClampNeg < -1000000 then (s.1, 1) else if g (f + nI j).toNatClampNeg ≤ 1000000 then (sx_sI s.1 17 (upd (sx_I s.1 17) (nI j).toNatClampNeg (g (f + nI j).toNatClampNeg).toInt32), s.2) else (s.1, 1)
theorem ly_ldA {G : pj_G} {dd : Nat} {c : sx_C} {m : sx_M} {o : Nat → Int64} {D : pj_H} {Q : pj_O → pj_H → Prop} {kc ks : Nat} (j n : Nat) (k f odd len : Int32) {i0 N : Nat} {g : Nat → Int64} (hw : fc_wd D i0 N g) (hin : vp_in (f + nI j) N) (hj : j < n) (hn : n ≤ 12)
    (kk : pj_J G mX1_load (dd + 1) 65 [some (.ref 2), some (.int k), some (.int f), some (.int (nI n)), some (.ref (i0 + 98)), some (.int (fc_ldA g f j (c.1, odd)).2), some (.int len), some (.int (nI (j + 1))), none, none] [] (sx_mk (sx_sM c (fc_ldA g f j (c.1, odd)).1) m o D) kc ks Q) :
    pj_J G mX1_load (dd + 1) 65 [some (.ref 2), some (.int k), some (.int f), some (.int (nI n)), some (.ref (i0 + 98)), some (.int odd), some (.int len), some (.int (nI j)), none, none] [] (sx_mk c m o D) kc ks Q := by
  refine pj_J.go (oX1_load G) 3 rfl trivial ?_
  refine pj_J.neg (by rw [Int32.le_iff_toInt_le, nI_toInt (by omega), nI_toInt (by omega)]; omega) ?_
  refine pj_J.go (oX1_load G) 4 rfl trivial ?_
  refine pj_J.cal0 kX1_load_77 (c_X1_wideW hw.mk (f + nI j) hin) trivial pj_le0 pj_le0 pj_le0 ?_
  unfold fc_ldA at kk
  generalize g (f + nI j).toNatClampNeg = x at kk ⊢
  refine pj_J.go (oX1_load G) 5 rfl trivial ?_
  refine pj_J.ite (fun h1 => ?_) (fun h1 => ?_)
  · simp only [pj_lc_lt] at h1
    rw [if_pos h1] at kk
    refine pj_J.go (oX1_load G) 5 rfl trivial ?_
    rw [nI_add1]
    exact pj_J.drp kk ⟨rfl, rfl, rfl, rfl, rfl, rfl, rfl, rfl, trivial⟩
  · simp only [pj_lc_lt] at h1
    rw [if_neg h1] at kk
    refine pj_J.go (oX1_load G) 4 rfl trivial ?_
    refine pj_J.ite (fun h2 => ?_) (fun h2 => ?_)
    · simp only [pj_lc_le] at h2
      rw [if_pos h2] at kk
      refine pj_J.go (oX1_load G) 6 rfl ⟨by exact vp_in_lit (by omega), trivial⟩ ?_
      refine pj_J.go (oX1_load G) 2 rfl trivial ?_
      rw [nI_add1]
      exact pj_J.drp kk ⟨rfl, rfl, rfl, rfl, rfl, rfl, rfl, rfl, trivial⟩
    · simp only [pj_lc_le] at h2
      rw [if_neg h2] at kk
      refine pj_J.go (oX1_load G) 5 rfl trivial ?_
      rw [nI_add1]
      exact pj_J.drp kk ⟨rfl, rfl, rfl, rfl, rfl, rfl, rfl, rfl, trivial⟩
/-- the loop as far as j = M -/
theorem lp_ldA {G : pj_G} {dd : Nat} {c : sx_C} {m : sx_M} {o : Nat → Int64} {D : pj_H} {Q : pj_O → pj_H → Prop} {kc ks : Nat} (M n : Nat) (k f len : Int32) {i0 N : Nat} {g : Nat → Int64} (hw : fc_wd D i0 N g) (hin : ∀ j, j < M → vp_in (f + nI j) N) (hM : M ≤ n) (hn : n ≤ 12)
    (kk : pj_J G mX1_load (dd + 1) 65 [some (.ref 2), some (.int k), some (.int f), some (.int (nI n)), some (.ref (i0 + 98)), some (.int (it_up (fc_ldA g f) M 0 (c.1, 0)).2), some (.int len), some (.int (nI M)), none, none] [] (sx_mk (sx_sM c (it_up (fc_ldA g f) M 0 (c.1, 0)).1) m o D) kc ks Q) :
    pj_J G mX1_load (dd + 1) 65 [some (.ref 2), some (.int k), some (.int f), some (.int (nI n)), some (.ref (i0 + 98)), some (.int 0), some (.int len), some (.int (nI 0)), none, none] [] (sx_mk c m o D) kc ks Q := by
  refine pj_for (σ := sx_M × Int32) (fun (j : Nat) (s : sx_M × Int32) => pj_J G mX1_load (dd + 1) 65 [some (.ref 2), some (.int k), some (.int f), some (.int (nI n)), some (.ref (i0 + 98)), some (.int s.2), some (.int len), some (.int (nI j)), none, none] [] (sx_mk (sx_sM c s.1) m o D) kc ks Q) (fc_ldA g f) (fun _ _ => True) M (fun j s hj hi => ⟨hi, fun kk => ?_⟩) M 0 (c.1, 0) (by omega) trivial (fun _ => kk)
  exact ly_ldA (c := sx_sM c s.1) j n k f s.2 len hw (hin j hj) (by omega) hn kk
/-- what load does with a row of N elements g -/
def fc_ldS (c : sx_C) (f : Int32) (n N : Nat) (g : Nat → Int64) (a : Int32) (c' : sx_C) : Prop :=
  (((n = 0 ∧ ¬ (¬ f < 0 ∧ f ≤ Int32.ofNat N)) ∨ ∃ j, j < n ∧ ¬ vp_in (f + nI j) N) ∧ a = -13 ∧ ∃ s : sx_M, (s = c.1 ∨ ∃ M, M ≤ n ∧ s = (it_up (fc_ldA g f) M 0 (c.1, 0)).1) ∧ c' = sx_sM c (fc_snag s (-13)).2) ∨
  ((n = 0 → ¬ f < 0 ∧ f ≤ Int32.ofNat N) ∧ (∀ j, j < n → vp_in (f + nI j) N) ∧ ((¬ (it_up (fc_ldA g f) n 0 (c.1, 0)).2 = 0 ∧ a = -3 ∧ c' = sx_sM c (it_up (fc_ldA g f) n 0 (c.1, 0)).1) ∨
    ((it_up (fc_ldA g f) n 0 (c.1, 0)).2 = 0 ∧ a = nI n ∧ c' = sx_sM c (sx_si (it_up fc_ldB n 0 (it_up (fc_ldA g f) n 0 (c.1, 0)).1) 3 (nI n)))))
def fc_ldQ (c : sx_C) (m : sx_M) (o : Nat → Int64) (D : pj_H) (f : Int32) (n N : Nat) (g : Nat → Int64) : pj_O → pj_H → Prop := fun r x => ∃ (a : Int32) (c' : sx_C) (E : pj_H), r = .inl (some (.int a)) ∧ x = sx_mk c' m o (D ++ E) ∧ fc_ldS c f n N g a c'
theorem ly_ldO {G : pj_G} {dd : Nat} {c : sx_C} {m : sx_M} {o : Nat → Int64} {D : pj_H} {Q : pj_O → pj_H → Prop} (j n : Nat) (k f odd len : Int32) {i0 N : Nat} {g : Nat → Int64} (hw : fc_wd D i0 N g) (hN : N < 2 ^ 31) (hin : ¬ vp_in (f + nI j) N) (hj : j < n) (hn : n ≤ 12)
    (q : Q (.inl (some (.int (fc_snag c.1 (-13)).1))) (sx_mk (sx_sM c (fc_snag c.1 (-13)).2) m o (D ++ [.inr (90, []), .inr (90, []), .inr (23, [])]))) :
    pj_J G mX1_load (dd + 1) 65 [some (.ref 2), some (.int k), some (.int f), some (.int (nI n)), some (.ref (i0 + 98)), some (.int odd), some (.int len), some (.int (nI j)), none, none] [] (sx_mk c m o D) 3 1010 Q := by
  refine pj_J.go (oX1_load G) 3 rfl trivial ?_
  refine pj_J.neg (by rw [Int32.le_iff_toInt_le, nI_toInt (by omega), nI_toInt (by omega)]; omega) ?_
  refine pj_J.go (oX1_load G) 4 rfl trivial ?_
  refine px_callS2 (my := mX1_wide) (n := 2) (As := [.ref (i0 + 98), .int (f + nI j)]) (rest := []) (k1 := 3) (s1 := 1010) (kc := 0) (ks := 0) dX1_load_77 whX1_load whX1_wide (by decide +kernel) (by decide) ⟨by decide +kernel, by decide +kernel⟩ q1258 q1259 q58 rfl (Nat.le_of_ble_eq_true rfl) (Nat.le_of_ble_eq_true rfl) (c_X1_wideO hw.mk (f + nI j) hN hin) ⟨?_, ?_⟩
  · rintro v1 h1 ⟨e1, -⟩
    cases e1
  · rintro ci i h1 ⟨e1, rfl⟩
    cases e1
    refine Or.inl ⟨_, [none, some ("java/lang/NullPointerException", false), none, some ("java/lang/ClassCastException", false), none, some ("java/lang/ArrayIndexOutOfBoundsException", true)], 143, by decide, rfl, ⟨by decide, ⟨by decide, by decide⟩, by decide, q1162, by decide, by decide, ⟨by decide, by decide⟩, by decide, q1187, by decide, by decide, ⟨by decide, by decide⟩, by decide, q1233, pj_xC 5 rfl, rfl⟩, ?_⟩
    refine pj_J.heq (h' := sx_mk c m o (D ++ [.inr (90, []), .inr (90, []), .inr (23, [])])) rfl ?_
    refine pj_J.go (oX1_load G) 3 rfl trivial ?_
    refine pj_J.cal0 kX1_load_148 (c_X1_snag (c := c) (-13)) ⟨_, _, _, rfl, rfl⟩ pj_le0 pj_le0 pj_le0 ?_
    exact pj_iret dX1_load_151 rfl q
/-- from pc 62 on -/
theorem lq_ldM {G : pj_G} {dd : Nat} {c : sx_C} {m : sx_M} {o : Nat → Int64} {D : pj_H} (n : Nat) (k f len : Int32) {i0 N : Nat} {g : Nat → Int64} (hw : fc_wd D i0 N g) (hN : N < 2 ^ 31) (hn : n ≤ 12) (h0 : n = 0 → ¬ f < 0 ∧ f ≤ Int32.ofNat N) :
    pj_J G mX1_load (dd + 1) 65 [some (.ref 2), some (.int k), some (.int f), some (.int (nI n)), some (.ref (i0 + 98)), some (.int 0), some (.int len), some (.int (nI 0)), none, none] [] (sx_mk c m o D) 3 1010 (fc_ldQ c m o D f n N g) := by
  by_cases hall : ∀ j, j < n → vp_in (f + nI j) N
  · refine lp_ldA n n k f len hw hall (Nat.le_refl n) hn ?_
    have hS : ∀ (s : sx_M × Int32), it_up (fc_ldA g f) n 0 (c.1, 0) = s → pj_J G mX1_load (dd + 1) 65 [some (.ref 2), some (.int k), some (.int f), some (.int (nI n)), some (.ref (i0 + 98)), some (.int s.2), some (.int len), some (.int (nI n)), none, none] [] (sx_mk (sx_sM c s.1) m o D) 3 1010 (fc_ldQ c m o D f n N g) := by
      intro s hs
      refine pj_J.go (oX1_load G) 3 rfl trivial ?_
      refine pj_J.pos (Int32.le_refl _) ?_
      refine pj_J.go (oX1_load G) 3 rfl trivial ?_
      refine pj_J.ite (fun h1 => ?_) (fun h1 => ?_)
      · refine pj_J.go (oX1_load G) 2 rfl trivial ?_
        refine pj_J.drp (lp_ldB (c := sx_sM c s.1) n k f (.ref (i0 + 98)) s.2 hn ?_) ⟨rfl, rfl, rfl, rfl, rfl, rfl, rfl, trivial⟩
        refine ⟨nI n, _, [], rfl, by rw [List.append_nil], Or.inr ⟨h0, hall, Or.inr ⟨by rw [hs]; exact h1, rfl, ?_⟩⟩⟩
        rw [hs]
        rfl
      · refine pj_J.go (oX1_load G) 1 rfl trivial ?_
        refine pj_iret dX1_load_159 rfl ?_
        exact ⟨-3, _, [], rfl, by rw [List.append_nil], Or.inr ⟨h0, hall, Or.inl ⟨by rw [hs]; exact h1, rfl, by rw [hs]⟩⟩⟩
    exact hS _ rfl
  · have hex : ∃ M, M < n ∧ ¬ vp_in (f + nI M) N ∧ ∀ j, j < M → vp_in (f + nI j) N := by
      clear h0 hw
      induction n with
      | zero => exact absurd (fun j hj => absurd hj (by omega)) hall
      | succ n ih =>
        by_cases h2 : ∀ j, j < n → vp_in (f + nI j) N
        · refine ⟨n, by omega, fun h3 => hall (fun j hj => ?_), h2⟩
          by_cases e : j = n
          · rw [e]; exact h3
          · exact h2 j (by omega)
        · obtain ⟨M, a1, a2, a3⟩ := ih (by omega) h2
          exact ⟨M, by omega, a2, a3⟩
    obtain ⟨M, hM, hno, hyes⟩ := hex
    refine lp_ldA M n k f len hw hyes (by omega) hn ?_
    refine ly_ldO (c := sx_sM c (it_up (fc_ldA g f) M 0 (c.1, 0)).1) M n k f _ len hw hN hno hM hn ?_
    exact ⟨-13, _, _, rfl, rfl, Or.inl ⟨Or.inr ⟨M, hM, hno⟩, rfl, _, Or.inr ⟨M, by omega, rfl⟩, rfl⟩⟩
theorem lh_ld {G : pj_G} {dd : Nat} {c : sx_C} {m : sx_M} {o : Nat → Int64} {D : pj_H} {Q : pj_O → pj_H → Prop} {kc ks : Nat} (k f n : Int32) (hg : ¬ fc_isTape c.1 k = 0) (hv : vp_in k 6) (h0 : ¬ n < 0) (hn : n ≤ 12) (t : Option Nat) (ht : sx_T c k.toNatClampNeg = t)
    (kk : pj_J G mX1_load (dd + 1) 36 [some (.ref 2), some (.int k), some (.int f), some (.int n), some (va_rf t), some (.int 0), none, none, none, none] [va_rf t] (sx_mk c m o D) kc ks Q) : pj_Cn G mX1_load (dd + 1) [.ref 2, .int k, .int f, .int n] (sx_mk c m o D) kc ks Q := by
  subst ht
  refine pj_Cn.start ?_
  refine pj_J.go (oX1_load G) 2 rfl trivial ?_
  refine pj_J.cal0 kX1_load_2 (c_X1_isTape (c := c) k) ⟨_, _, _, rfl, rfl⟩ pj_le0 pj_le0 pj_le0 ?_
  refine pj_J.go (oX1_load G) 1 rfl trivial ?_
  refine pj_J.neg hg ?_
  refine pj_J.go (oX1_load G) 2 rfl trivial ?_
  refine pj_J.neg h0 ?_
  refine pj_J.go (oX1_load G) 3 rfl trivial ?_
  refine pj_J.pos hn ?_
  refine pj_J.go (oX1_load G) 4 rfl ⟨by exact hv, trivial⟩ ?_
  refine pj_J.seq (show va_rf (sx_tr k.toNatClampNeg) :: _ = .ref (53 + k.toNatClampNeg) :: _ by rw [(sx_tr_at hv).1]; rfl) ?_
  refine pj_J.go1 (pc := 26) (oX1_load G) rfl (po_getD (lo := 2) (hi := 2) (k := 0) (n := 29) (by exact sx_tp (sx_tr_at hv).2) (by decide) (by rfl)) trivial ?_
  generalize sx_T c k.toNatClampNeg = t at kk ⊢
  cases t with
  | none =>
    refine pj_J.seq (show va_rf none :: _ = .null :: _ from rfl) ?_
    refine pj_J.go (oX1_load G) 4 rfl trivial ?_
    exact kk
  | some a =>
    refine pj_J.seq (show va_rf (some a) :: _ = .ref a :: _ from rfl) ?_
    refine pj_J.go (oX1_load G) 4 rfl trivial ?_
    exact kk
/-- load of a row -/
theorem c_X1_loadW {G : pj_G} {d : Nat} {c : sx_C} {m : sx_M} {o : Nat → Int64} {D : pj_H} (k f : Int32) (n : Nat) (hg : ¬ fc_isTape c.1 k = 0) (hv : vp_in k 6) (hn : n ≤ 12) {i0 N : Nat} {g : Nat → Int64} (ht : sx_T c k.toNatClampNeg = some (i0 + 98)) (hw : fc_wd D i0 N g) (hN : N < 2 ^ 31) : pj_Cn G mX1_load (d + 1) [.ref 2, .int k, .int f, .int (nI n)] (sx_mk c m o D) 3 1010 (fc_ldQ c m o D f n N g) := by
  refine lh_ld k f (nI n) hg hv (by rw [Int32.lt_iff_toInt_lt, nI_toInt (by omega)]; exact Int.not_lt.mpr (Int.natCast_nonneg n)) (by rw [Int32.le_iff_toInt_le, nI_toInt (by omega)]; show (n : Int) ≤ 12; omega) _ ht ?_
  refine pj_J.cal0 kX1_load_36 (c_X1_lengthW hw.mk) trivial pj_le0 pj_le0 pj_le0 ?_
  refine pj_J.go (oX1_load G) 3 rfl trivial ?_
  have fin : (n = 0 → ¬ f < 0 ∧ f ≤ Int32.ofNat N) → pj_J G mX1_load (d + 1) 62 [some (.ref 2), some (.int k), some (.int f), some (.int (nI n)), some (.ref (i0 + 98)), some (.int 0), some (.int (Int32.ofNat N)), none, none, none] [] (sx_mk c m o D) 3 1010 (fc_ldQ c m o D f n N g) := fun h0 => by
    refine pj_J.go (oX1_load G) 2 rfl trivial ?_
    exact lq_ldM n k f (Int32.ofNat N) hw hN hn h0
  have bad : n = 0 → ¬ (¬ f < 0 ∧ f ≤ Int32.ofNat N) → pj_J G mX1_load (d + 1) 55 [some (.ref 2), some (.int k), some (.int f), some (.int (nI n)), some (.ref (i0 + 98)), some (.int 0), some (.int (Int32.ofNat N)), none, none, none] [] (sx_mk c m o D) 3 1010 (fc_ldQ c m o D f n N g) := fun h0 h1 => by
    refine pj_J.go (oX1_load G) 2 rfl trivial ?_
    refine pj_J.cal0 kX1_load_58 (c_X1_snag (c := c) (-13)) ⟨_, _, _, rfl, rfl⟩ pj_le0 pj_le0 pj_le0 ?_
    exact pj_iret dX1_load_61 rfl ⟨-13, _, [], rfl, by rw [List.append_nil], Or.inl ⟨Or.inl ⟨h0, h1⟩, rfl, _, Or.inl rfl, rfl⟩⟩
  have hz : ∀ n : Nat, n ≤ 12 → nI n = 0 → n = 0 := fun n hn h => by
    have := congrArg Int32.toInt h
    rw [nI_toInt (by omega)] at this
    exact Int.ofNat.inj this
  refine pj_J.ite (fun h1 => ?_) (fun h1 => ?_)
  · refine pj_J.go (oX1_load G) 2 rfl trivial ?_
    refine pj_J.ite (fun h2 => bad (hz n hn h1) (fun h => h.1 h2)) (fun h2 => ?_)
    refine pj_J.go (oX1_load G) 3 rfl trivial ?_
    exact pj_J.ite (fun h3 => fin (fun _ => ⟨h2, h3⟩)) (fun h3 => bad (hz n hn h1) (fun h => h3 h.2))
  · exact fin (fun h0 => absurd (by rw [h0]; rfl) h1)
theorem c_X1_load0 {G : pj_G} {d : Nat} {c : sx_C} {m : sx_M} {o : Nat → Int64} {D : pj_H} (k f n : Int32) (hg : ¬ fc_isTape c.1 k = 0) (hv : vp_in k 6) (h0 : ¬ n < 0) (hn : n ≤ 12) (ht : sx_T c k.toNatClampNeg = none) : pj_Rt G mX1_load (d + 1) [.ref 2, .int k, .int f, .int n] (sx_mk c m o D) 1 8 (some (.int ((fc_snag c.1 (-11)).1))) (sx_mk (sx_sM c ((fc_snag c.1 (-11)).2)) m o (D ++ [.inr (21, [])])) := by
  refine lh_ld k f n hg hv h0 hn _ ht ?_
  refine px_callS2 (my := mX1_lengthOf) (n := 1) (As := [.null]) (rest := []) (k1 := 1) (s1 := 8) (kc := 0) (ks := 0) dX1_load_36 whX1_load whX1_lengthOf (by decide +kernel) (by decide) ⟨by decide +kernel, by decide +kernel⟩ q1252 q1253 q58 rfl (Nat.le_of_ble_eq_true rfl) (Nat.le_of_ble_eq_true rfl) c_X1_lengthOf_0 ⟨?_, ?_⟩
  · rintro v1 h1 ⟨e1, -⟩
    cases e1
  · rintro ci i h1 ⟨e1, rfl⟩
    cases e1
    refine Or.inl ⟨_, [some ("java/lang/NullPointerException", true)], 125, by decide, rfl, ⟨⟨by decide, by decide⟩, by decide, q1162, pj_xC 1 rfl, rfl⟩, ?_⟩
    refine pj_J.heq (h' := sx_mk c m o (D ++ [.inr (21, [])])) rfl ?_
    refine pj_J.go (oX1_load G) 3 rfl trivial ?_
    refine pj_J.cal0 kX1_load_130 (c_X1_snag (c := c) (-11)) ⟨_, _, _, rfl, rfl⟩ pj_le0 pj_le0 pj_le0 ?_
    exact pj_iret dX1_load_133 rfl ⟨rfl, rfl⟩
theorem c_X1_loadC {G : pj_G} {d : Nat} {c : sx_C} {m : sx_M} {o : Nat → Int64} {D : pj_H} (k f n : Int32) (hg : ¬ fc_isTape c.1 k = 0) (hv : vp_in k 6) (h0 : ¬ n < 0) (hn : n ≤ 12) {a : Nat} (ht : sx_T c k.toNatClampNeg = some a) (hr : pj_Cn G mX1_lengthOf d [.ref a] (sx_mk c m o D) 3 1010 (px_t3 22 (sx_mk c m o D))) : pj_Rt G mX1_load (d + 1) [.ref 2, .int k, .int f, .int n] (sx_mk c m o D) 3 1010 (some (.int ((fc_snag c.1 (-12)).1))) (sx_mk (sx_sM c ((fc_snag c.1 (-12)).2)) m o (D ++ [.inr (90, []), .inr (90, []), .inr (22, [])])) := by
  refine lh_ld k f n hg hv h0 hn _ ht ?_
  refine px_callS2 (my := mX1_lengthOf) (n := 1) (As := [.ref a]) (rest := []) (k1 := 3) (s1 := 1010) (kc := 0) (ks := 0) dX1_load_36 whX1_load whX1_lengthOf (by decide +kernel) (by decide) ⟨by decide +kernel, by decide +kernel⟩ q1252 q1253 q58 rfl (Nat.le_of_ble_eq_true rfl) (Nat.le_of_ble_eq_true rfl) hr ⟨?_, ?_⟩
  · rintro v1 h1 ⟨e1, -⟩
    cases e1
  · rintro ci i h1 ⟨e1, rfl⟩
    cases e1
    refine Or.inl ⟨_, [some ("java/lang/NullPointerException", false), none, some ("java/lang/ClassCastException", true)], 134, by decide, rfl, ⟨⟨by decide, by decide⟩, by decide, q1162, by decide, by decide, ⟨by decide, by decide⟩, by decide, q1187, pj_xC 3 rfl, rfl⟩, ?_⟩
    refine pj_J.heq (h' := sx_mk c m o (D ++ [.inr (90, []), .inr (90, []), .inr (22, [])])) rfl ?_
    refine pj_J.go (oX1_load G) 3 rfl trivial ?_
    refine pj_J.cal0 kX1_load_139 (c_X1_snag (c := c) (-12)) ⟨_, _, _, rfl, rfl⟩ pj_le0 pj_le0 pj_le0 ?_
    exact pj_iret dX1_load_142 rfl ⟨rfl, rfl⟩
