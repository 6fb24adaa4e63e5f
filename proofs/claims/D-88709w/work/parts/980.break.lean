/-! laws of a program: the judge's and the model's answers are the same (law 6 by what floats and loosely do, a parameter). Own work. -/
set_option maxRecDepth 100000
theorem ix8 {k : Nat} (hk : k < 8) : (8 + nI k : Int32).toNatClampNeg = 8 + k := by rw [show (8 + nI k : Int32) = nI (8 + k) from nI_add 8 k, nI_clamp (by omega)]
/-- accounts agree -/
def acc (u m : sx_M) : Prop := ∀ k, k < 8 → sx_L u 12 k = sx_L m 23 (8 + k)
theorem br_sum {u m : sx_M} (h : acc u m) : fc_bsum u = fm_bsum m := by
  unfold fc_bsum fm_bsum
  refine it_congr 8 0 0 fun k s _ hk => ?_
  unfold fc_bsB fm_bsB
  rw [ix8 (by omega), rl_c (show k < 100000 by omega), h k (by omega)]
theorem nt_m (m : sx_M) : ∃ f, fm_notes m = sx_sL m 42 f ∧ ∀ k, k < 8 → f k = sx_L m 23 (8 + k) := by
  unfold fm_notes
  refine it_inv (P := fun n (z : sx_M) => ∃ f, z = sx_sL m 42 f ∧ ∀ k, k < n → f k = sx_L m 23 (8 + k)) (n := 8) ?_ 8 0 m (by omega) ⟨sx_L m 42, rl_sL1 m 42, fun k hk => absurd hk (by omega)⟩
  intro n z hn ⟨f, e, h⟩
  subst e
  unfold fm_ntB
  rw [ix8 hn, rl_c (show n < 100000 by omega), rl_ss]
  refine ⟨_, rfl, fun k hk => ?_⟩
  rw [rg_uL]
  by_cases e : k = n
  · rw [if_pos e, e]; rfl
  · rw [if_neg e]; exact h k (by omega)
theorem nt_tf {m : sx_M} (h : rl_h 0 m) : tf m (fm_notes m) := by
  obtain ⟨f, e, _⟩ := nt_m m
  rw [e]
  exact ⟨fun _ _ _ _ _ _ _ => rfl, fun _ _ _ _ => rfl, fun _ _ => rfl, h, fun i a b c d => by rw [rg_LL, if_neg c], fun i k a _ => by rw [rg_LL, if_neg (by omega)], fun _ _ => rfl, fun _ _ => ⟨rfl, rfl⟩⟩
theorem al_iff (u y : sx_M) (sg : Int32) : ∀ e k, k + e ≤ 8 → (fc_al2 u y sg e k = 1 ∧ ∀ i, k ≤ i → i < k + e → sx_L u 12 i = sg.toInt64 * sx_L y 12 i) ∨ (fc_al2 u y sg e k = 0 ∧ ∃ i, k ≤ i ∧ i < k + e ∧ ¬ sx_L u 12 i = sg.toInt64 * sx_L y 12 i) := by
  intro e
  induction e with
  | zero => intro k _; exact Or.inl ⟨rfl, fun i a b => absurd b (by omega)⟩
  | succ e ih =>
    intro k hk
    unfold fc_al2
    rw [rl_c (show k < 100000 by omega)]
    by_cases c : sx_L u 12 k = sg.toInt64 * sx_L y 12 k
    · rw [if_pos c]
      rcases ih (k + 1) (by omega) with ⟨a, b⟩ | ⟨a, i, b1, b2, b3⟩
      · refine Or.inl ⟨a, fun i p q => ?_⟩
        by_cases e2 : i = k
        · rw [e2]; exact c
        · exact b i (by omega) (by omega)
      · exact Or.inr ⟨a, i, by omega, by omega, b3⟩
    · rw [if_neg c]
      exact Or.inr ⟨rfl, k, by omega, by omega, c⟩
theorem df_one (m : sx_M) (v : Int64) : ∀ c k, it_up (fm_dfB v m) c k 1 = 1 := by
  intro c
  induction c with
  | zero => intro k; rfl
  | succ c ih =>
    intro k
    show it_up (fm_dfB v m) c (k + 1) (fm_dfB v m k 1) = 1
    have : fm_dfB v m k 1 = 1 := by unfold fm_dfB; rw [if_neg (by decide : ¬ (1 : Int32) = 0)]
    rw [this]; exact ih _
theorem df_iff (m : sx_M) (v : Int64) : ∀ e k, k + e ≤ 8 → (it_up (fm_dfB v m) e k 0 = 0 ∧ ∀ i, k ≤ i → i < k + e → sx_L m 42 i = v * sx_L m 23 (8 + i)) ∨ (it_up (fm_dfB v m) e k 0 = 1 ∧ ∃ i, k ≤ i ∧ i < k + e ∧ ¬ sx_L m 42 i = v * sx_L m 23 (8 + i)) := by
  intro e
  induction e with
  | zero => intro k _; exact Or.inl ⟨rfl, fun i a b => absurd b (by omega)⟩
  | succ e ih =>
    intro k hk
    show (it_up (fm_dfB v m) e (k + 1) (fm_dfB v m k 0) = 0 ∧ _) ∨ (it_up (fm_dfB v m) e (k + 1) (fm_dfB v m k 0) = 1 ∧ _)
    by_cases c : sx_L m 42 k = v * sx_L m 23 (8 + k)
    · have : fm_dfB v m k 0 = 0 := by unfold fm_dfB; rw [if_pos rfl, ix8 (by omega), rl_c (show k < 100000 by omega), if_pos c]
      rw [this]
      rcases ih (k + 1) (by omega) with ⟨a, b⟩ | ⟨a, i, b1, b2, b3⟩
      · refine Or.inl ⟨a, fun i p q => ?_⟩
        by_cases e2 : i = k
        · rw [e2]; exact c
        · exact b i (by omega) (by omega)
      · exact Or.inr ⟨a, i, by omega, by omega, b3⟩
    · have : fm_dfB v m k 0 = 1 := by unfold fm_dfB; rw [if_pos rfl, ix8 (by omega), rl_c (show k < 100000 by omega), if_neg c]
      rw [this, df_one]
      exact Or.inr ⟨rfl, k, by omega, by omega, c⟩
/-- alike and differs -/
theorem br_al {u y m : sx_M} {sg : Int32} {v : Int64} (hv : sg.toInt64 = v) (h1 : ∀ k, k < 8 → sx_L u 12 k = sx_L m 42 k) (h2 : acc y m) : (fc_alike2 u y sg = 1 ∧ fm_differs m v = 0) ∨ (fc_alike2 u y sg = 0 ∧ fm_differs m v = 1) := by
  unfold fc_alike2 fm_differs
  rcases al_iff u y sg 8 0 (by omega) with ⟨a, b⟩ | ⟨a, i, b1, b2, b3⟩
  · rcases df_iff m v 8 0 (by omega) with ⟨c, d⟩ | ⟨c, j, d1, d2, d3⟩
    · exact Or.inl ⟨a, c⟩
    · have := b j (by omega) (by omega)
      rw [h1 j (by omega), h2 j (by omega), hv] at this
      exact absurd this d3
  · rcases df_iff m v 8 0 (by omega) with ⟨c, d⟩ | ⟨c, j, d1, d2, d3⟩
    · have := d i (by omega) (by omega)
      rw [← h1 i (by omega), ← h2 i (by omega), ← hv] at this
      exact absurd this b3
    · exact Or.inr ⟨a, c⟩
theorem uf_one {B : Nat → Int32} : ∀ c k, it_up (fun k (f : Int32) => if f = 0 then B k else 1) c k 1 = 1 := by
  intro c
  induction c with
  | zero => intro k; rfl
  | succ c ih =>
    intro k
    show it_up _ c (k + 1) (if (1 : Int32) = 0 then B k else 1) = 1
    rw [if_neg (by decide : ¬ (1 : Int32) = 0)]
    exact ih _
/-- a share that is far off -/
theorem br_far {w u m : sx_M} (hw : rl_w w m) (hp : rl_p u m) (hs : ∀ k, k < 8 → sx_L u 3 k = sx_L m 21 (8 + k)) : fc_far2 w u = fm_isUnfair m ∧ fc_farOk w u := by
  obtain ⟨_, _, hp⟩ := hp
  rcases hp with ⟨p1, p2⟩ | ⟨p1, p2, p3, p4⟩
  · refine ⟨?_, Or.inl (by rw [p2]; decide)⟩
    unfold fc_far2 fc_farShare fm_isUnfair
    rw [if_pos p1]
    show (if 0 ≤ sx_i u 5 then _ else (0 : Int32)) = 0
    rw [p2, if_neg (by decide)]
  · refine ⟨?_, Or.inr ⟨p2, fun k hk => (hw.2.1 k hk).2⟩⟩
    obtain ⟨q, hq, eq⟩ := vp_in_of p2 (by decide)
    obtain ⟨n, om, al, h⟩ := sh_from hw hq
    have h8 := h.2.1
    unfold fc_far2 fc_farShare fm_isUnfair
    rw [if_neg (show ¬ sx_i m 27 = 0 by rw [p1]; decide)]
    show (if 0 ≤ sx_i u 5 then fc_fsL _ (fc_wholeWeight w (sx_i u 5)) (fc_wOf (fc_wholeWeight w (sx_i u 5))) (fc_many w (sx_i u 5) (fc_wholeWeight w (sx_i u 5))).toNatClampNeg 0 else (0 : Int32)) = _
    rw [← p3, eq, if_pos (show (0 : Int32) ≤ nI q from nI_le (a := 0) (by omega) (by omega)), h.2.2.2.2.2.2.1, h.2.2.2.2.2.1, h.2.2.2.2.2.2.2.1, h.2.2.2.2.2.2.2.2.1, rl_c (show n < 100000 by omega)]
    have step : ∀ e k, k + e = n → fc_fsL (w, (fun _ => u), (fun _ => none), (fun _ => none)) (fc_wholeWeight w (nI q)) al e k = it_up (fm_ufB m al) e k 0 := by
      intro e
      induction e with
      | zero => intro k _; rfl
      | succ e ih =>
        intro k hk
        have hkn : k < n := by omega
        have hwe : fm_weighed m (sx_i m 30) (nI k) = om k := by
          rw [← p3, eq]
          have := h.2.2.2.2.1 (sx_L m 21) k hkn
          rw [← rl_sL1 m 21] at this
          exact this
        have EO : fc_fsO (w, (fun _ => u), (fun _ => none), (fun _ => none)) (fc_wholeWeight w (nI q)) al k = sx_L m 21 (8 + nI k : Int32).toNatClampNeg * al - sx_l m 29 * fm_weighed m (sx_i m 30) (nI k) := by
          unfold fc_fsO
          show sx_L u 3 (nI k).toNatClampNeg * al - sx_l u 6 * (fc_weightOf w (sx_i u 5) (nI k) (fc_wholeWeight w (nI q))).toInt64 = _
          rw [rl_c (show k < 100000 by omega), hs k (by omega), ix8 (by omega), p4, eq, (h.2.2.2.1 k hkn).1, hwe]
        unfold fc_fsL
        show _ = it_up (fm_ufB m al) e (k + 1) (fm_ufB m al k 0)
        unfold fc_fsB
        rw [EO]
        have EU : fm_ufB m al k 0 = (if al ≤ sx_L m 21 (8 + nI k : Int32).toNatClampNeg * al - sx_l m 29 * fm_weighed m (sx_i m 30) (nI k) then (1 : Int32) else if -al < sx_L m 21 (8 + nI k : Int32).toNatClampNeg * al - sx_l m 29 * fm_weighed m (sx_i m 30) (nI k) then 0 else 1) := by
          unfold fm_ufB
          rw [if_pos rfl]
        rw [EU]
        have one : ∀ c k, it_up (fm_ufB m al) c k 1 = 1 := fun c k => uf_one (B := fun k => (if al ≤ sx_L m 21 (8 + nI k : Int32).toNatClampNeg * al - sx_l m 29 * fm_weighed m (sx_i m 30) (nI k) then (1 : Int32) else if -al < sx_L m 21 (8 + nI k : Int32).toNatClampNeg * al - sx_l m 29 * fm_weighed m (sx_i m 30) (nI k) then 0 else 1)) c k
        generalize hB : (if al ≤ sx_L m 21 (8 + nI k : Int32).toNatClampNeg * al - sx_l m 29 * fm_weighed m (sx_i m 30) (nI k) then (1 : Int32) else if -al < sx_L m 21 (8 + nI k : Int32).toNatClampNeg * al - sx_l m 29 * fm_weighed m (sx_i m 30) (nI k) then 0 else 1) = B
        have hB2 : B = 0 ∨ B = 1 := by
          rw [← hB]
          (repeat' split) <;> decide
        rcases hB2 with rfl | rfl
        · rw [if_pos rfl]; exact ih (k + 1) (by omega)
        · rw [if_neg (by decide : ¬ (1 : Int32) = 0), one]
    exact step n 0 (by omega)
theorem pn_neg32 {x : Int32} (h : x.toInt.natAbs ≤ 1000000) : (-x).toInt.natAbs ≤ 1000000 := by
  rw [Int32.toInt_neg, Int.bmod_eq_of_le (by omega) (by omega)]
  omega
/-- what the run by doubles must do (in both), for law 6 -/
def FLok (FO : sx_M → sx_M → Prop) (FL : sx_M → sx_M → sx_M × sx_M) (F : sx_M → Int32 → Int32 → sx_M) (A : fp_A) (n p : Nat) : Prop :=
  ∀ (w u m : sx_M) (x : Int32), rl_w w m → rl_h 0 m → rp A n p m → ub u → sx_I u 8 0 = x → sx_i u 9 = 1 → x.toInt.natAbs ≤ 1000000 → FO w (fr_bare u) ∧ tw w (FL w (fr_bare u)).1 ∧ tf m (F m (nI p) x) ∧ sx_L (F m (nI p) x) 42 = sx_L m 42 ∧ ub (FL w (fr_bare u)).2 ∧ acc (FL w (fr_bare u)).2 (F m (nI p) x)
/-- a law but law 2 -/
theorem br_N {FO : sx_M → sx_M → Prop} {FL : sx_M → sx_M → sx_M × sx_M} {F : sx_M → Int32 → Int32 → sx_M} {A : fp_A} {n p : Nat} {w u y m : sx_M} (hF : FLok FO FL F A n p) (hp : p < 4) (hw : rl_w w m) (hh : rl_h 0 m) (hA : rp A n p m) (hu : ub u) (hy : ub y) {law x : Int32} (h2 : ¬ law = 2) (hx : x.toInt.natAbs ≤ 1000000) :
    (fc_brkN FL A n w u y law x).1 = (fm_breaks F m (nI p) law (-1) x).1 ∧ tf m (fm_breaks F m (nI p) law (-1) x).2 ∧ tw w (fc_brkN FL A n w u y law x).2.1 ∧ ub (fc_brkN FL A n w u y law x).2.2.1 ∧ ub (fc_brkN FL A n w u y law x).2.2.2 ∧ fc_brkNOk FO FL A n w u y law x := by
  obtain ⟨a1, _, _, _, t1, t2, t3, t4, t5, t6, t7⟩ := ty_amount (A := A) (n := n) (p := p) (w := w) (u := u) (m := m) hp hw hh hA hu hx
  generalize hR : fc_runs A n w u x = R at *
  generalize hM : fm_tA m (nI p) x = M at *
  have tn := nt_tf (m := M.2) t1.2.2.2.1
  obtain ⟨f, en, hn⟩ := nt_m M.2
  have back := ty_amount (A := A) (n := n) (p := p) (w := R.2.1) (u := y) (m := fm_notes M.2) hp (tn.W t3) tn.2.2.2.1 (tn.P (t1.P hA)) hy (pn_neg32 hx)
  obtain ⟨b1, _, _, _, s1, s2, s3, s4, s5, s6, s7⟩ := back
  have s42 : sx_L (fm_tA (fm_notes M.2) (nI p) (-x)).2 42 = sx_L (fm_notes M.2) 42 := s6.1
  unfold fc_brkN fm_breaks fc_brkNOk
  rw [hR, hM]
  generalize hR2 : fc_runs A n R.2.1 y (-x) = R2 at *
  generalize hM2 : fm_tA (fm_notes M.2) (nI p) (-x) = M2 at *
  by_cases l0 : law = 0
  · rw [if_pos l0, if_pos l0]
    refine ⟨?_, t1, t2, t4, hy, a1, fun q => absurd l0 q, fun q => absurd l0 q, fun q => absurd l0 q, True.intro⟩
    rcases t7 with ⟨c1, c2, c3, _, _⟩ | ⟨c1, c2, _⟩
    · rw [c1, c2, if_neg (by decide : ¬ (1 : Int32) = 0), if_pos rfl, br_sum c3]
    · rw [c1, c2, if_pos rfl, if_neg (by decide : ¬ (1 : Int32) = 0)]
  rw [if_neg l0, if_neg l0]
  by_cases l1 : law = 1
  · rw [if_pos l1, if_pos l1]
    have T := (t1.tr tn).tr s1
    have O : fc_runsOk A n w u x ∧ (¬ law = 0 → law = 1 → fc_runsOk A n R.2.1 y (-x)) ∧ (¬ law = 0 → ¬ law = 1 → law = 3 → ¬ R.1 = 0 → fc_farOk R.2.1 R.2.2) ∧ (¬ law = 0 → ¬ law = 1 → ¬ law = 3 → ¬ law = 4 → ¬ law = 5 → ¬ R.1 = 0 → FO (sx_sI R.2.1 18 (upd (sx_I R.2.1 18) (0 : Int32).toNatClampNeg x)) (fr_bare (fr_bill y (sx_I (sx_sI R.2.1 18 (upd (sx_I R.2.1 18) (0 : Int32).toNatClampNeg x)) 18) 1))) ∧ True := ⟨a1, fun _ _ => b1, fun _ q => absurd l1 q, fun _ q => absurd l1 q, True.intro⟩
    rcases t7 with ⟨c1, c2, c3, _, _⟩ | ⟨c1, c2, c3⟩
    · rw [c1] at O
      rcases s7 with ⟨d1, d2, d3, _, _⟩ | ⟨d1, d2, d3⟩
      · have al := br_al (u := R.2.2) (y := R2.2.2) (m := M2.2) (sg := -1) (v := -1) rfl (fun k hk => by rw [s42, en]; show _ = f k; rw [hn k hk]; exact c3 k hk) d3
        rw [c1, c2, d1, d2, if_pos rfl, if_neg (by decide : ¬ (1 : Int32) = 0), if_pos rfl, if_pos rfl]
        rcases al with ⟨e1, e2⟩ | ⟨e1, e2⟩
        · rw [e1, e2, if_neg (by decide : ¬ (1 : Int32) = 0), if_pos rfl]
          exact ⟨rfl, T, t2.tr s2, t4, s4, O⟩
        · rw [e1, e2, if_pos rfl, if_neg (by decide : ¬ (1 : Int32) = 0)]
          exact ⟨rfl, T, t2.tr s2, t4, s4, O⟩
      · rw [c1, c2, d1, d2, if_neg (by decide : ¬ (1 : Int32) = 0), if_neg (by decide : ¬ (1 : Int32) = 0)]
        exact ⟨rfl, T, t2.tr s2, t4, s4, O⟩
    · rw [c1] at O
      rcases s7 with ⟨d1, d2, d3, _, _⟩ | ⟨d1, d2, d3⟩
      · rw [c1, c2, d1, d2, if_neg (by decide : ¬ (0 : Int32) = 1), if_neg (by decide : ¬ (0 : Int32) = 1)]
        exact ⟨rfl, T, t2.tr s2, t4, s4, O⟩
      · rw [c1, c2, d1, d2, if_pos rfl, if_pos rfl, if_pos rfl, if_neg (by decide : ¬ (1 : Int32) = 0)]
        exact ⟨rfl, T, t2.tr s2, t4, s4, O⟩
  rw [if_neg l1, if_neg l1, if_neg h2]
  by_cases l3 : law = 3
  · rw [if_pos l3, if_pos l3]
    have fr : R.1 = 1 → fc_far2 R.2.1 R.2.2 = fm_isUnfair M.2 ∧ fc_farOk R.2.1 R.2.2 := by
      intro q
      rcases t7 with ⟨c1, c2, c3, _, c5⟩ | ⟨c1, _⟩
      · exact br_far t3 c5 (fun k hk => by have := t5.2.2.2.1 k hk; rw [show 8 * 1 + k = 8 + k by omega] at this; exact this)
      · rw [c1] at q; exact absurd q (by decide)
    have O : fc_runsOk A n w u x ∧ (¬ law = 0 → law = 1 → fc_runsOk A n R.2.1 y (-x)) ∧ (¬ law = 0 → ¬ law = 1 → law = 3 → ¬ R.1 = 0 → fc_farOk R.2.1 R.2.2) ∧ (¬ law = 0 → ¬ law = 1 → ¬ law = 3 → ¬ law = 4 → ¬ law = 5 → ¬ R.1 = 0 → FO (sx_sI R.2.1 18 (upd (sx_I R.2.1 18) (0 : Int32).toNatClampNeg x)) (fr_bare (fr_bill y (sx_I (sx_sI R.2.1 18 (upd (sx_I R.2.1 18) (0 : Int32).toNatClampNeg x)) 18) 1))) ∧ True := ⟨a1, fun _ _ => b1, fun _ _ _ z => (fr (by rcases t7 with ⟨c1, _⟩ | ⟨c1, _⟩; exact c1; exact absurd c1 z)).2, fun _ _ q => absurd l3 q, True.intro⟩
    rcases t7 with ⟨c1, c2, c3, _, _⟩ | ⟨c1, c2, _⟩
    · rw [(fr c1).1, c1, c2, if_neg (by decide : ¬ (1 : Int32) = 0), if_pos rfl]
      by_cases c : fm_isUnfair M.2 = 0
      · rw [if_pos c, if_pos c]; exact ⟨rfl, t1, t2, t4, hy, by rw [c1] at O; exact O⟩
      · rw [if_neg c, if_neg c]; exact ⟨rfl, t1, t2, t4, hy, by rw [c1] at O; exact O⟩
    · rw [c1, c2, if_pos rfl, if_neg (by decide : ¬ (1 : Int32) = 0)]
      exact ⟨rfl, t1, t2, t4, hy, by rw [c1] at O; exact O⟩
  rw [if_neg l3, if_neg l3]
  have O5 : law = 4 ∨ law = 5 → fc_runsOk A n w u x ∧ (¬ law = 0 → law = 1 → fc_runsOk A n R.2.1 y (-x)) ∧ (¬ law = 0 → ¬ law = 1 → law = 3 → ¬ R.1 = 0 → fc_farOk R.2.1 R.2.2) ∧ (¬ law = 0 → ¬ law = 1 → ¬ law = 3 → ¬ law = 4 → ¬ law = 5 → ¬ R.1 = 0 → FO (sx_sI R.2.1 18 (upd (sx_I R.2.1 18) (0 : Int32).toNatClampNeg x)) (fr_bare (fr_bill y (sx_I (sx_sI R.2.1 18 (upd (sx_I R.2.1 18) (0 : Int32).toNatClampNeg x)) 18) 1))) ∧ True := fun l => ⟨a1, fun _ _ => b1, fun _ _ q => absurd q l3, fun _ _ _ q4 q5 => absurd l (fun z => z.elim q4 q5), True.intro⟩
  by_cases l4 : law = 4
  · rw [if_pos l4, if_pos l4]
    have O := O5 (Or.inl l4)
    rcases t7 with ⟨c1, c2, c3, _, _⟩ | ⟨c1, c2, _⟩
    · rw [c1, if_neg (by decide : ¬ (1 : Int32) = 0)]
      exact ⟨c2.symm, t1, t2, t4, hy, by rw [c1] at O; exact O⟩
    · rw [c1, if_pos rfl]
      exact ⟨c2.symm, t1, t2, t4, hy, by rw [c1] at O; exact O⟩
  rw [if_neg l4, if_neg l4]
  by_cases l5 : law = 5
  · rw [if_pos l5, if_pos l5]
    have O := O5 (Or.inr l5)
    rcases t7 with ⟨c1, c2, c3, c4, _⟩ | ⟨c1, c2, _⟩
    · rw [c1, c2, if_neg (by decide : ¬ (1 : Int32) = 0), if_pos rfl, c4]
      by_cases c : sx_i M.2 31 ≤ 0
      · rw [if_pos c, if_pos c]; exact ⟨rfl, t1, t2, t4, hy, by rw [c1] at O; exact O⟩
      · rw [if_neg c, if_neg c]; exact ⟨rfl, t1, t2, t4, hy, by rw [c1] at O; exact O⟩
    · rw [c1, c2, if_pos rfl, if_neg (by decide : ¬ (1 : Int32) = 0)]
      exact ⟨rfl, t1, t2, t4, hy, by rw [c1] at O; exact O⟩
  rw [if_neg l5, if_neg l5]
  obtain ⟨g, eg, g1, g2⟩ := bl_u y (sx_I (fc_rsW R.2.1 x) 18) (n := 1) (by decide)
  have E0 : sx_I (fc_rsW R.2.1 x) 18 0 = x := by
    unfold fc_rsW
    rw [rg_II, if_pos rfl, rg_u, if_pos (show 0 = Int32.toNatClampNeg 0 from rfl)]
  have w0 : tw R.2.1 (fc_rsW R.2.1 x) := ⟨rfl, fun i _ _ a => by show (if i = 18 then _ else sx_I R.2.1 i) = _; rw [if_neg a], fun _ _ _ => rfl⟩
  have fl := hF (fc_rsW R.2.1 x) (fr_bill y (sx_I (fc_rsW R.2.1 x) 18) 1) (fm_notes M.2) x (w0.W (tn.W t3)) tn.2.2.2.1 (tn.P (t1.P hA)) (by
    rw [eg]
    intro k hk
    show (g k).toInt.natAbs ≤ _
    by_cases e : k = 0
    · rw [e, g1 0 (by decide), E0]; exact hx
    · rw [g2 k (by omega)]; exact hy k hk) (by rw [eg]; show g 0 = x; rw [g1 0 (by decide), E0]) (by rw [eg]; rfl) hx
  obtain ⟨f1, f2, f3, f4, f5, f6⟩ := fl
  rw [show sx_sI R.2.1 18 (upd (sx_I R.2.1 18) (0 : Int32).toNatClampNeg x) = fc_rsW R.2.1 x from rfl]
  have O : fc_runsOk A n w u x ∧ (¬ law = 0 → law = 1 → fc_runsOk A n R.2.1 y (-x)) ∧ (¬ law = 0 → ¬ law = 1 → law = 3 → ¬ R.1 = 0 → fc_farOk R.2.1 R.2.2) ∧ (¬ law = 0 → ¬ law = 1 → ¬ law = 3 → ¬ law = 4 → ¬ law = 5 → ¬ R.1 = 0 → FO (fc_rsW R.2.1 x) (fr_bare (fr_bill y (sx_I (fc_rsW R.2.1 x) 18) 1))) ∧ True := ⟨a1, fun _ _ => b1, fun _ _ q => absurd q l3, fun _ _ _ _ _ _ => f1, True.intro⟩
  rcases t7 with ⟨c1, c2, c3, _, _⟩ | ⟨c1, c2, _⟩
  · have al := br_al (u := R.2.2) (sg := 1) (v := 1) rfl (fun k hk => by rw [f4, en]; show _ = f k; rw [hn k hk]; exact c3 k hk) f6
    rw [c1, c2, if_neg (by decide : ¬ (1 : Int32) = 0), if_pos rfl]
    rw [c1] at O
    rcases al with ⟨e1, e2⟩ | ⟨e1, e2⟩
    · rw [e1, e2, if_neg (by decide : ¬ (1 : Int32) = 0)]
      exact ⟨rfl, (t1.tr tn).tr f3, (t2.tr w0).tr f2, t4, f5, O⟩
    · rw [e1, e2, if_pos rfl]
      exact ⟨rfl, (t1.tr tn).tr f3, (t2.tr w0).tr f2, t4, f5, O⟩
  · rw [c1, c2, if_pos rfl, if_neg (by decide : ¬ (1 : Int32) = 0)]
    rw [c1] at O
    exact ⟨rfl, t1, t2, t4, hy, O⟩
