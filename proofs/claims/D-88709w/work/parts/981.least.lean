/-! law 2, the least amount that breaks a law. Own work. -/
set_option maxRecDepth 100000
/-- law 2 -/
theorem br_R {FL : sx_M → sx_M → sx_M × sx_M} {F : sx_M → Int32 → Int32 → sx_M} {FO : sx_M → sx_M → Prop} {A B : fp_A} {n nb p q : Nat} {w u y m : sx_M} (hp : p < 4) (hq : q < 4) (hw : rl_w w m) (hh : rl_h 0 m) (hA : rp A n p m) (hB : rp B nb q m) (hu : ub u) (hy : ub y) {law x : Int32} (h2 : law = 2) (hx : x.toInt.natAbs ≤ 1000000) :
    (fc_brkR FL A n B nb w u y law x).1 = (fm_breaks F m (nI p) law (nI q) x).1 ∧ tf m (fm_breaks F m (nI p) law (nI q) x).2 ∧ tw w (fc_brkR FL A n B nb w u y law x).2.1 ∧ ub (fc_brkR FL A n B nb w u y law x).2.2.1 ∧ ub (fc_brkR FL A n B nb w u y law x).2.2.2 ∧ fc_brkROk FO FL A n B nb w u y law x := by
  obtain ⟨a1, _, _, _, t1, t2, t3, t4, t5, t6, t7⟩ := ty_amount (A := A) (n := n) (p := p) (w := w) (u := u) (m := m) hp hw hh hA hu hx
  unfold fc_brkR fm_breaks fc_brkROk
  generalize hR : fc_runs A n w u x = R at *
  generalize hM : fm_tA m (nI p) x = M at *
  have tn := nt_tf (m := M.2) t1.2.2.2.1
  obtain ⟨f, en, hn⟩ := nt_m M.2
  obtain ⟨b1, _, _, _, s1, s2, s3, s4, s5, s6, s7⟩ := ty_amount (A := B) (n := nb) (p := q) (w := R.2.1) (u := y) (m := fm_notes M.2) hq (tn.W t3) tn.2.2.2.1 (tn.P (t1.P hB)) hy hx
  generalize hR2 : fc_runs B nb R.2.1 y x = R2 at *
  generalize hM2 : fm_tA (fm_notes M.2) (nI q) x = M2 at *
  have T := (t1.tr tn).tr s1
  subst h2
  rw [if_neg (by decide : ¬ (2 : Int32) = 0), if_neg (by decide : ¬ (2 : Int32) = 1), if_pos rfl]
  rcases t7 with ⟨c1, c2, c3, _, _⟩ | ⟨c1, c2, c3⟩
  · rcases s7 with ⟨d1, d2, d3, _, _⟩ | ⟨d1, d2, d3⟩
    · have al := br_al (u := R.2.2) (y := R2.2.2) (m := M2.2) (sg := 1) (v := 1) rfl (fun k hk => by rw [s6.1, en]; show _ = f k; rw [hn k hk]; exact c3 k hk) d3
      rw [c1, c2, d1, d2, if_pos rfl, if_neg (by decide : ¬ (1 : Int32) = 0), if_pos rfl, if_pos rfl]
      rcases al with ⟨e1, e2⟩ | ⟨e1, e2⟩
      · rw [e1, e2, if_neg (by decide : ¬ (1 : Int32) = 0), if_pos rfl]
        exact ⟨rfl, T, t2.tr s2, t4, s4, a1, b1, True.intro⟩
      · rw [e1, e2, if_pos rfl, if_neg (by decide : ¬ (1 : Int32) = 0)]
        exact ⟨rfl, T, t2.tr s2, t4, s4, a1, b1, True.intro⟩
    · rw [c1, c2, d1, d2, if_neg (by decide : ¬ (1 : Int32) = 0), if_neg (by decide : ¬ (1 : Int32) = 0)]
      exact ⟨rfl, T, t2.tr s2, t4, s4, a1, b1, True.intro⟩
  · rcases s7 with ⟨d1, d2, d3, _, _⟩ | ⟨d1, d2, d3⟩
    · rw [c1, c2, d1, d2, if_neg (by decide : ¬ (0 : Int32) = 1), if_neg (by decide : ¬ (0 : Int32) = 1)]
      exact ⟨rfl, T, t2.tr s2, t4, s4, a1, b1, True.intro⟩
    · rw [c1, c2, d1, d2, if_pos rfl, if_pos rfl, if_pos rfl, if_neg (by decide : ¬ (1 : Int32) = 0)]
      exact ⟨rfl, T, t2.tr s2, t4, s4, a1, b1, True.intro⟩
/-- what trying leaves of the judge -/
def tc (c x : sx_C) : Prop := tw c.1 x.1 ∧ sx_R x 0 = sx_R c 0 ∧ x.2.2 = c.2.2 ∧ ub (sx_R x 1) ∧ ub (sx_R x 2)
theorem tc.tr {c x y : sx_C} (h : tc c x) (g : tc x y) : tc c y := ⟨h.1.tr g.1, g.2.1.trans h.2.1, g.2.2.1.trans h.2.2.1, g.2.2.2.1, g.2.2.2.2⟩
def tcN (c : sx_C) (r : Int32 × sx_M × sx_M × sx_M) : Int32 × sx_C := (r.1, sx_sR (sx_sR (sx_sM c r.2.1) 1 r.2.2.1) 2 r.2.2.2)
theorem tcN_ok {c : sx_C} {r : Int32 × sx_M × sx_M × sx_M} (h1 : tw c.1 r.2.1) (h2 : ub r.2.2.1) (h3 : ub r.2.2.2) : tc c (tcN c r).2 := by
  refine ⟨h1, ?_, rfl, ?_, ?_⟩
  · show va_up (va_up c.2.1 1 r.2.2.1) 2 r.2.2.2 0 = _
    rfl
  · exact h2
  · exact h3
/-- both tried states belong together -/
def tq (c0 : sx_C) (m0 : sx_M) (c : sx_C) (m : sx_M) : Prop := tc c0 c ∧ tf m0 m ∧ rl_w c.1 m
theorem tq.refl {c : sx_C} {m : sx_M} (hw : rl_w c.1 m) (hh : rl_h 0 m) (h1 : ub (sx_R c 1)) (h2 : ub (sx_R c 2)) : tq c m c m := ⟨⟨tw.refl _, rfl, rfl, h1, h2⟩, tf.refl hh, hw⟩
theorem tq.step {c0 c x : sx_C} {m0 m y : sx_M} (h : tq c0 m0 c m) (h1 : tc c x) (h2 : tf m y) : tq c0 m0 x y := ⟨h.1.tr h1, h.2.1.tr h2, h2.W (h1.1.W h.2.2)⟩
theorem ls_rel {R : sx_C → sx_M → Prop} {B : sx_C → Int32 → Int32 × sx_C} {B' : sx_M → Int32 → Int32 × sx_M} {lo hi : Int} (hlo : -1000000 ≤ lo) (hhi : hi ≤ 1000000) (h : ∀ c m u, lo ≤ u.toInt → u.toInt ≤ hi → R c m → (B c u).1 = (B' m u).1 ∧ R (B c u).2 (B' m u).2) :
    ∀ (e : Nat) (u : Int32) (c : sx_C) (m : sx_M), lo ≤ u.toInt → u.toInt + e ≤ hi + 1 → R c m → (fc_lsL B e u c).1 = (fm_lsL B' e u m).1 ∧ R (fc_lsL B e u c).2 (fm_lsL B' e u m).2 := by
  intro e
  induction e with
  | zero => intro u c m _ _ r; exact ⟨rfl, r⟩
  | succ e ih =>
    intro u c m h1 h2 r
    obtain ⟨a, b⟩ := h c m u h1 (by omega) r
    unfold fc_lsL fm_lsL
    rw [a]
    by_cases z : (B' m u).1 = 0
    · rw [if_pos z, if_pos z]
      have e1 : (u + 1).toInt = u.toInt + 1 := pn_add32 (A := 1000001) (B := 1) (by omega) (by decide) (by decide)
      exact ih (u + 1) _ _ (by omega) (by omega) b
    · rw [if_neg z, if_neg z]
      exact ⟨rfl, b⟩
theorem span_in {x y n : Int32} (h : ¬ fc_span x y n = 0) : -1000000 ≤ x.toInt ∧ y.toInt ≤ 1000000 ∧ x.toInt ≤ y.toInt := by
  unfold fc_span fc_within at h
  have e1 : (-1000000 : Int32).toInt = -1000000 := rfl
  have e2 : (1000000 : Int32).toInt = 1000000 := rfl
  by_cases a : x < -1000000
  · rw [if_pos a] at h; exact absurd rfl h
  · rw [if_neg a] at h
    by_cases b : (1000000 : Int32) < x
    · rw [if_pos b] at h; exact absurd rfl h
    · rw [if_neg b, if_neg (by decide : ¬ (1 : Int32) = 0)] at h
      by_cases c : y < -1000000
      · rw [if_pos c] at h; exact absurd rfl h
      · rw [if_neg c] at h
        by_cases d : (1000000 : Int32) < y
        · rw [if_pos d] at h; exact absurd rfl h
        · rw [if_neg d, if_neg (by decide : ¬ (1 : Int32) = 0)] at h
          by_cases e : y < x
          · rw [if_pos e] at h; exact absurd rfl h
          · rw [Int32.lt_iff_toInt_lt] at a b c d e
            omega
/-- the least amount: not law 2 -/
theorem ls_N {FO : sx_M → sx_M → Prop} {FL : sx_M → sx_M → sx_M × sx_M} {F : sx_M → Int32 → Int32 → sx_M} {A : fp_A} {n p : Nat} {c : sx_C} {m : sx_M} (hF : FLok FO FL F A n p) (hp : p < 4) (hw : rl_w c.1 m) (hh : rl_h 0 m) (hA : rp A n p m) (hu : ub (sx_R c 1)) (hy : ub (sx_R c 2)) {law x y k : Int32} (h2 : ¬ law = 2) (hs : ¬ fc_span x y k = 0) :
    (fc_firstBreak (fun c u => tcN c (fc_brkN FL A n c.1 (sx_R c 1) (sx_R c 2) law u)) c x y).1 = (fm_leastOf (fun m u => fm_breaks F m (nI p) law (-1) u) m x y).1 ∧
    tq c m (fc_firstBreak (fun c u => tcN c (fc_brkN FL A n c.1 (sx_R c 1) (sx_R c 2) law u)) c x y).2 (fm_leastOf (fun m u => fm_breaks F m (nI p) law (-1) u) m x y).2 := by
  obtain ⟨s1, s2, s3⟩ := span_in hs
  unfold fc_firstBreak fm_leastOf
  refine ls_rel (R := tq c m) s1 s2 ?_ _ x c m (Int.le_refl _) (by omega) (tq.refl hw hh hu hy)
  intro c1 m1 u1 hl hh1 r
  obtain ⟨b1, b2, b3, b4, b5, b6⟩ := br_N (FO := FO) hF hp r.2.2 r.2.1.2.2.2.1 (r.2.1.P hA) r.1.2.2.2.1 r.1.2.2.2.2 (law := law) h2 (x := u1) (by omega)
  exact ⟨b1, r.step (tcN_ok b3 b4 b5) b2⟩
/-- the least amount: law 2 -/
theorem ls_R {FL : sx_M → sx_M → sx_M × sx_M} {F : sx_M → Int32 → Int32 → sx_M} {A B : fp_A} {n nb p q : Nat} {c : sx_C} {m : sx_M} (hp : p < 4) (hq : q < 4) (hw : rl_w c.1 m) (hh : rl_h 0 m) (hA : rp A n p m) (hB : rp B nb q m) (hu : ub (sx_R c 1)) (hy : ub (sx_R c 2)) {law x y k : Int32} (h2 : law = 2) (hs : ¬ fc_span x y k = 0) :
    (fc_firstBreak (fun c u => tcN c (fc_brkR FL A n B nb c.1 (sx_R c 1) (sx_R c 2) law u)) c x y).1 = (fm_leastOf (fun m u => fm_breaks F m (nI p) law (nI q) u) m x y).1 ∧
    tq c m (fc_firstBreak (fun c u => tcN c (fc_brkR FL A n B nb c.1 (sx_R c 1) (sx_R c 2) law u)) c x y).2 (fm_leastOf (fun m u => fm_breaks F m (nI p) law (nI q) u) m x y).2 := by
  obtain ⟨s1, s2, s3⟩ := span_in hs
  unfold fc_firstBreak fm_leastOf
  refine ls_rel (R := tq c m) s1 s2 ?_ _ x c m (Int.le_refl _) (by omega) (tq.refl hw hh hu hy)
  intro c1 m1 u1 hl hh1 r
  obtain ⟨b1, b2, b3, b4, b5, b6⟩ := br_R (FL := FL) (F := F) (FO := fun _ _ => True) hp hq r.2.2 r.2.1.2.2.2.1 (r.2.1.P hA) (r.2.1.P hB) r.1.2.2.2.1 r.1.2.2.2.2 (law := law) h2 (x := u1) (by omega)
  exact ⟨b1, r.step (tcN_ok b3 b4 b5) b2⟩
