/-! mends. Own work. -/
set_option maxRecDepth 100000
/-- the program with another choice in its act k -/
def fp_set (A : fp_A) (k : Nat) (y : Int32) : fp_A := fun i => if i = k then ((A k).1, (A k).2.1, fp_t (A k).1 (A k).2.2.1 y, fp_v (A k).1 (A k).2.2.2 y) else A i
theorem rg_u2 (f : Nat → Int32) (i : Nat) (v : Int32) : upd (upd f i v) i (f i) = f := by
  funext k
  rw [rg_u]
  by_cases h : k = i
  · rw [if_pos h, h]
  · rw [if_neg h, rg_u, if_neg h]
/-- kinds with a choice -/
theorem md_kind {a : Nat} {t v : Int32} (hf : fit a t v) : (fp_hc a ∧ fm_hasChoice (nI a) = 1 ∧ vp_in (fp_ch a t v) (fp_cN a) ∧ (∀ y, vp_in y (fp_cN a) → fit a (fp_t a t y) (fp_v a v y))) ∨ (¬ fp_hc a ∧ fm_hasChoice (nI a) = 0 ∧ fp_ch a t v = -1) := by
  have ha := fit_lt hf
  rcases (by omega : a = 0 ∨ a = 1 ∨ a = 2 ∨ a = 3 ∨ a = 4 ∨ a = 5 ∨ a = 6 ∨ a = 7 ∨ a = 8 ∨ a = 9 ∨ a = 10 ∨ a = 11 ∨ a = 12) with rfl | rfl | rfl | rfl | rfl | rfl | rfl | rfl | rfl | rfl | rfl | rfl | rfl
  · exact Or.inr ⟨by unfold fp_hc; omega, by decide, rfl⟩
  · exact Or.inl ⟨by unfold fp_hc; omega, by decide, hf.2, fun y hy => ⟨hf.1, hy⟩⟩
  · exact Or.inl ⟨by unfold fp_hc; omega, by decide, hf.2, fun y hy => ⟨hf.1, hy⟩⟩
  · exact Or.inr ⟨by unfold fp_hc; omega, by decide, rfl⟩
  · exact Or.inl ⟨by unfold fp_hc; omega, by decide, hf.1, fun y hy => ⟨hy, hf.2⟩⟩
  · exact Or.inr ⟨by unfold fp_hc; omega, by decide, rfl⟩
  · exact Or.inl ⟨by unfold fp_hc; omega, by decide, hf.1, fun y hy => ⟨hy, hf.2⟩⟩
  · exact Or.inr ⟨by unfold fp_hc; omega, by decide, rfl⟩
  · exact Or.inr ⟨by unfold fp_hc; omega, by decide, rfl⟩
  · exact Or.inr ⟨by unfold fp_hc; omega, by decide, rfl⟩
  · exact Or.inr ⟨by unfold fp_hc; omega, by decide, rfl⟩
  · exact Or.inl ⟨by unfold fp_hc; omega, by decide, hf.2, fun y hy => ⟨hf.1, hy⟩⟩
  · exact Or.inr ⟨by unfold fp_hc; omega, by decide, rfl⟩
theorem md_hc {a : Nat} (h : fp_hc a) : (nI a = 4 ∧ a = 4) ∨ (nI a = 6 ∧ a = 6 ∧ ¬ nI a = 4) ∨ (¬ nI a = 4 ∧ ¬ nI a = 6 ∧ a ≠ 4 ∧ a ≠ 6) := by
  unfold fp_hc at h
  rcases h with rfl | rfl | rfl | rfl | rfl
  · exact Or.inr (Or.inr (by decide))
  · exact Or.inr (Or.inr (by decide))
  · exact Or.inl (by decide)
  · exact Or.inr (Or.inl (by decide))
  · exact Or.inr (Or.inr (by decide))
/-- what the model's choosing does, and back -/
theorem md_choose {A : fp_A} {n p k : Nat} {m : sx_M} (hA : rp A n p m) (hp : p < 4) (hk : k < n) (hc : fp_hc (A k).1) : fm_mdW m (20 * nI p + nI k) = fp_ch (A k).1 (A k).2.2.1 (A k).2.2.2 ∧
    ∀ y, vp_in y (fp_cN (A k).1) → rp (fp_set A k y) n p (fm_chooses m (20 * nI p + nI k) y) ∧ (∀ w, rl_w w m → rl_w w (fm_chooses m (20 * nI p + nI k) y)) ∧ (rl_h 0 m → rl_h 0 (fm_chooses m (20 * nI p + nI k) y)) ∧
      (∀ x, tf (fm_chooses m (20 * nI p + nI k) y) x → tf m (fm_chooses x (20 * nI p + nI k) (fm_mdW m (20 * nI p + nI k)))) := by
  obtain ⟨h20, h8, hk2⟩ := hA
  obtain ⟨e1, e2, e3, e4, e5, e6⟩ := hk2 k hk
  have ix := rp_ix (p := p) (k := k) hp (by omega)
  have mk := md_kind e6
  have fits : ∀ y, vp_in y (fp_cN (A k).1) → fit (A k).1 (fp_t (A k).1 (A k).2.2.1 y) (fp_v (A k).1 (A k).2.2.2 y) := by
    rcases mk with ⟨_, _, _, q⟩ | ⟨q, _⟩
    · exact q
    · exact absurd hc q
  have inj : ∀ i, i < n → (20 * p + i = 20 * p + k ↔ i = k) := fun i _ => by omega
  unfold fm_mdW fm_chooses
  rw [ix, e1]
  rcases md_hc hc with ⟨q4, q4'⟩ | ⟨q6, q6', q64⟩ | ⟨q4, q6, q4', q6'⟩
  · rw [if_pos q4]
    have ech : fp_ch (A k).1 (A k).2.2.1 (A k).2.2.2 = (A k).2.2.1 := by rw [q4']; rfl
    have et : ∀ y, fp_t (A k).1 (A k).2.2.1 y = y := fun y => by rw [q4']; rfl
    have ev : ∀ y, fp_v (A k).1 (A k).2.2.2 y = (A k).2.2.2 := fun y => by rw [q4']; rfl
    refine ⟨by rw [ech]; exact e3, fun y hy => ⟨⟨h20, by rw [if_pos q4]; exact h8, fun i hi => ?_⟩, fun w hw => by rw [if_pos q4]; exact hw, fun h => by rw [if_pos q4]; exact h, fun x hx => ?_⟩⟩
    · obtain ⟨d1, d2, d3, d4, d5, d6⟩ := hk2 i hi
      rw [if_pos q4]
      unfold fp_set
      by_cases c : i = k
      · subst c
        rw [if_pos rfl, et, ev]
        have f := fits y hy
        rw [et, ev] at f
        exact ⟨e1, e2, by show upd (sx_I m 11) (20 * p + i) y (20 * p + i) = y; rw [rg_u, if_pos rfl], e4, e5, f⟩
      · rw [if_neg c]
        exact ⟨d1, d2, by show upd (sx_I m 11) (20 * p + k) y (20 * p + i) = _; rw [rg_u, if_neg (by omega)]; exact d3, d4, d5, d6⟩
    · rw [if_pos q4] at hx
      have e9 : sx_I x 9 (20 * p + k) = nI (A k).1 := by rw [hx.2.1 9 (by decide) (by decide) (by decide)]; exact e1
      rw [e9, if_pos q4]
      have e11 : sx_I x 11 = upd (sx_I m 11) (20 * p + k) y := by rw [hx.2.1 11 (by decide) (by decide) (by decide)]; rfl
      obtain ⟨x1, x2, x3, x4, x5, x6, x7, x8⟩ := hx
      refine ⟨x1, fun i i1 i2 i3 => ?_, x3, x4, x5, x6, x7, x8⟩
      rw [rg_II]
      by_cases c : i = 11
      · rw [if_pos c, c, e11, rg_u2]
      · rw [if_neg c, x2 i i1 i2 i3, rg_II, if_neg c]
  · rw [if_neg q64, if_pos q6]
    have ech : fp_ch (A k).1 (A k).2.2.1 (A k).2.2.2 = (A k).2.2.1 := by rw [q6']; rfl
    have et : ∀ y, fp_t (A k).1 (A k).2.2.1 y = y := fun y => by rw [q6']; rfl
    have ev : ∀ y, fp_v (A k).1 (A k).2.2.2 y = (A k).2.2.2 := fun y => by rw [q6']; rfl
    refine ⟨by rw [ech]; exact e3, fun y hy => ⟨⟨h20, ?_, fun i hi => ?_⟩, fun w hw => by rw [if_neg q64, if_pos q6]; exact hw, fun h => by rw [if_neg q64, if_pos q6]; exact h, fun x hx => ?_⟩⟩
    · rw [if_neg q64, if_pos q6]; exact h8
    · obtain ⟨d1, d2, d3, d4, d5, d6⟩ := hk2 i hi
      rw [if_neg q64, if_pos q6]
      unfold fp_set
      by_cases c : i = k
      · subst c
        rw [if_pos rfl, et, ev]
        have f := fits y hy
        rw [et, ev] at f
        exact ⟨e1, e2, by show upd (sx_I m 11) (20 * p + i) y (20 * p + i) = y; rw [rg_u, if_pos rfl], e4, e5, f⟩
      · rw [if_neg c]
        exact ⟨d1, d2, by show upd (sx_I m 11) (20 * p + k) y (20 * p + i) = _; rw [rg_u, if_neg (by omega)]; exact d3, d4, d5, d6⟩
    · rw [if_neg q64, if_pos q6] at hx
      have e9 : sx_I x 9 (20 * p + k) = nI (A k).1 := by rw [hx.2.1 9 (by decide) (by decide) (by decide)]; exact e1
      rw [e9, if_neg q64, if_pos q6]
      have e11 : sx_I x 11 = upd (sx_I m 11) (20 * p + k) y := by rw [hx.2.1 11 (by decide) (by decide) (by decide)]; rfl
      obtain ⟨x1, x2, x3, x4, x5, x6, x7, x8⟩ := hx
      refine ⟨x1, fun i i1 i2 i3 => ?_, x3, x4, x5, x6, x7, x8⟩
      rw [rg_II]
      by_cases c : i = 11
      · rw [if_pos c, c, e11, rg_u2]
      · rw [if_neg c, x2 i i1 i2 i3, rg_II, if_neg c]
  · rw [if_neg q4, if_neg q6]
    have ech : fp_ch (A k).1 (A k).2.2.1 (A k).2.2.2 = (A k).2.2.2 := by
      unfold fp_hc at hc
      rcases hc with q | q | q | q | q
      · rw [q]; rfl
      · rw [q]; rfl
      · exact absurd q q4'
      · exact absurd q q6'
      · rw [q]; rfl
    have et : ∀ y, fp_t (A k).1 (A k).2.2.1 y = (A k).2.2.1 := fun y => by
      unfold fp_hc at hc
      rcases hc with q | q | q | q | q
      · rw [q]; rfl
      · rw [q]; rfl
      · exact absurd q q4'
      · exact absurd q q6'
      · rw [q]; rfl
    have ev : ∀ y, fp_v (A k).1 (A k).2.2.2 y = y := fun y => by
      unfold fp_hc at hc
      rcases hc with q | q | q | q | q
      · rw [q]; rfl
      · rw [q]; rfl
      · exact absurd q q4'
      · exact absurd q q6'
      · rw [q]; rfl
    refine ⟨by rw [ech]; exact e4, fun y hy => ⟨⟨h20, ?_, fun i hi => ?_⟩, fun w hw => by rw [if_neg q4, if_neg q6]; exact hw, fun h => by rw [if_neg q4, if_neg q6]; exact h, fun x hx => ?_⟩⟩
    · rw [if_neg q4, if_neg q6]; exact h8
    · obtain ⟨d1, d2, d3, d4, d5, d6⟩ := hk2 i hi
      rw [if_neg q4, if_neg q6]
      unfold fp_set
      by_cases c : i = k
      · subst c
        rw [if_pos rfl, et, ev]
        have f := fits y hy
        rw [et, ev] at f
        exact ⟨e1, e2, e3, by show upd (sx_I m 12) (20 * p + i) y (20 * p + i) = y; rw [rg_u, if_pos rfl], e5, f⟩
      · rw [if_neg c]
        exact ⟨d1, d2, d3, by show upd (sx_I m 12) (20 * p + k) y (20 * p + i) = _; rw [rg_u, if_neg (by omega)]; exact d4, d5, d6⟩
    · rw [if_neg q4, if_neg q6] at hx
      have e9 : sx_I x 9 (20 * p + k) = nI (A k).1 := by rw [hx.2.1 9 (by decide) (by decide) (by decide)]; exact e1
      rw [e9, if_neg q4, if_neg q6]
      have e12 : sx_I x 12 = upd (sx_I m 12) (20 * p + k) y := by rw [hx.2.1 12 (by decide) (by decide) (by decide)]; rfl
      obtain ⟨x1, x2, x3, x4, x5, x6, x7, x8⟩ := hx
      refine ⟨x1, fun i i1 i2 i3 => ?_, x3, x4, x5, x6, x7, x8⟩
      rw [rg_II]
      by_cases c : i = 12
      · rw [if_pos c, c, e12, rg_u2]
      · rw [if_neg c, x2 i i1 i2 i3, rg_II, if_neg c]
/-- the judge's tries of one act -/
theorem md_stop (FB : sx_C → pj_H → Int32 × sx_C) (Dy : Int32 → pj_H) (was : Int32) : ∀ e v (z : Int32 × sx_C), 0 ≤ z.1 → fc_mdI FB Dy was e v z = z := by
  intro e v z hz
  cases e with
  | zero => rfl
  | succ e => unfold fc_mdI; rw [if_pos hz]
section
variable {FO : fp_A → sx_M → sx_M → Prop} {FL : fp_A → sx_M → sx_M → sx_M × sx_M} {F : sx_M → Int32 → Int32 → sx_M} {A : fp_A} {n p : Nat} {c0 : sx_C} {m0 : sx_M} {law fr to kk : Int32}
theorem md_I (hF : ∀ A, FLok (FO A) (FL A) F A n p) (hp : p < 4) (hA : rp A n p m0) (h2 : ¬ law = 2) (hs : ¬ fc_span fr to kk = 0) {LO : sx_M → Int32 × sx_M} (hLO : ∀ m, LO m = fm_leastOf (fun m u => fm_breaks F m (nI p) law (-1) u) m fr to) {FB : sx_C → pj_H → Int32 × sx_C} {Dy : Int32 → pj_H} {k : Nat} (hk : k < n) (hc : fp_hc (A k).1)
    (hFB : ∀ c y, FB c (Dy y) = fc_firstBreak (fun c u => tcN c (fc_brkN (FL (fp_set A k y)) (fp_set A k y) n c.1 (sx_R c 1) (sx_R c 2) law u)) c fr to) :
    ∀ (e v : Nat) (c : sx_C) (m : sx_M), v + e = fp_cN (A k).1 → tq c0 m0 c m →
      (∃ m', fm_mdI LO (nI k) (20 * nI p + nI k) (fp_ch (A k).1 (A k).2.2.1 (A k).2.2.2) e v m = (none, m') ∧ (fc_mdI FB Dy (fp_ch (A k).1 (A k).2.2.1 (A k).2.2.2) e v (-1, c)).1 = -1 ∧ tq c0 m0 (fc_mdI FB Dy (fp_ch (A k).1 (A k).2.2.1 (A k).2.2.2) e v (-1, c)).2 m') ∨
      (∃ m' g, g < 6 ∧ fm_mdI LO (nI k) (20 * nI p + nI k) (fp_ch (A k).1 (A k).2.2.1 (A k).2.2.2) e v m = (some (10 * nI k + nI g), m') ∧ (fc_mdI FB Dy (fp_ch (A k).1 (A k).2.2.1 (A k).2.2.2) e v (-1, c)).1 = nI g ∧ tq c0 m0 (fc_mdI FB Dy (fp_ch (A k).1 (A k).2.2.1 (A k).2.2.2) e v (-1, c)).2 m') := by
  have cN : fp_cN (A k).1 ≤ 6 := by unfold fp_cN; split <;> omega
  intro e
  induction e with
  | zero => intro v c m _ h; exact Or.inl ⟨m, rfl, rfl, h⟩
  | succ e ih =>
    intro v c m hv h
    have hAm := h.2.1.P hA
    obtain ⟨w1, w2⟩ := md_choose hAm hp hk hc
    have hvi : vp_in (nI v) (fp_cN (A k).1) := vp_in_nI (by omega) (by omega)
    obtain ⟨y1, y2, y3, y4⟩ := w2 (nI v) hvi
    unfold fm_mdI fc_mdI fm_mdV
    rw [if_neg (by decide : ¬ (0 : Int32) ≤ -1)]
    rw [w1] at y4
    by_cases ew : nI v = fp_ch (A k).1 (A k).2.2.1 (A k).2.2.2
    · rw [if_pos ew, if_pos ew, if_pos rfl]
      have t1 := y4 _ (tf.refl (y3 h.2.1.2.2.2.1))
      have q : tq c0 m0 c (fm_chooses (fm_chooses m (20 * nI p + nI k) (nI v)) (20 * nI p + nI k) (fp_ch (A k).1 (A k).2.2.1 (A k).2.2.2)) := ⟨h.1, h.2.1.tr t1, t1.W h.2.2⟩
      exact ih (v + 1) c _ (by omega) q
    · rw [if_neg ew, if_neg ew]
      obtain ⟨l1, l2⟩ := ls_N (c := c) (m := fm_chooses m (20 * nI p + nI k) (nI v)) (hF (fp_set A k (nI v))) hp (y2 _ h.2.2) (y3 h.2.1.2.2.2.1) y1 h.1.2.2.2.1 h.1.2.2.2.2 h2 hs
      rw [hFB c (nI v), hLO]
      generalize hX : fc_firstBreak (fun c u => tcN c (fc_brkN (FL (fp_set A k (nI v))) (fp_set A k (nI v)) n c.1 (sx_R c 1) (sx_R c 2) law u)) c fr to = X at *
      generalize hY : fm_leastOf (fun m u => fm_breaks F m (nI p) law (-1) u) (fm_chooses m (20 * nI p + nI k) (nI v)) fr to = Y at *
      have t1 := y4 _ l2.2.1
      have q : tq c0 m0 X.2 (fm_chooses Y.2 (20 * nI p + nI k) (fp_ch (A k).1 (A k).2.2.1 (A k).2.2.2)) := ⟨h.1.tr l2.1, h.2.1.tr t1, t1.W (l2.1.1.W h.2.2)⟩
      rw [l1]
      by_cases c9 : Y.1 = 9999999
      · rw [if_pos c9, if_pos c9, if_neg (by decide : ¬ (1 : Int32) = 0)]
        right
        refine ⟨_, v, by omega, rfl, ?_⟩
        rw [md_stop FB Dy _ e (v + 1) (nI v, X.2) (nI_le (a := 0) (by omega) (by omega))]
        exact ⟨rfl, q⟩
      · rw [if_neg c9, if_neg c9, if_pos rfl]
        exact ih (v + 1) X.2 _ (by omega) q
/-- the walk over the acts -/
theorem md_O (hF : ∀ A, FLok (FO A) (FL A) F A n p) (hp : p < 4) (hA : rp A n p m0) (h2 : ¬ law = 2) (hs : ¬ fc_span fr to kk = 0) {LO : sx_M → Int32 × sx_M} (hLO : ∀ m, LO m = fm_leastOf (fun m u => fm_breaks F m (nI p) law (-1) u) m fr to) {FB : sx_C → pj_H → Int32 × sx_C} {D : pj_H} {x : Nat → Nat}
    (hFB : ∀ k c y, k < n → FB c (D.set (x k) (fp_cs (A k).1 (A k).2.1 (A k).2.2.1 (A k).2.2.2 y)) = fc_firstBreak (fun c u => tcN c (fc_brkN (FL (fp_set A k y)) (fp_set A k y) n c.1 (sx_R c 1) (sx_R c 2) law u)) c fr to) :
    ∀ (e k : Nat) (c : sx_C) (m : sx_M), k + e = n → tq c0 m0 c m → (fc_mdO FB D A x e k c).1 = (fm_mdO LO (nI p) e k m).1 ∧ tq c0 m0 (fc_mdO FB D A x e k c).2 (fm_mdO LO (nI p) e k m).2 := by
  intro e
  induction e with
  | zero => intro k c m _ h; exact ⟨rfl, h⟩
  | succ e ih =>
    intro k c m hk h
    have hkn : k < n := by omega
    have hAm := h.2.1.P hA
    obtain ⟨h20, _, hk2⟩ := id hAm
    obtain ⟨e1, _, _, _, _, e6⟩ := hk2 k hkn
    have ix := rp_ix (p := p) (k := k) hp (by omega)
    unfold fc_mdO fm_mdO
    rw [ix, e1]
    rcases md_kind e6 with ⟨hc, hch, hin, _⟩ | ⟨hc, hch, hm⟩
    · have hN : fm_mdN (nI (A k).1) = fp_cN (A k).1 := by
        unfold fm_mdN
        rw [hch, if_neg (by decide : ¬ (1 : Int32) = 0)]
        unfold fm_mcap fp_cN
        have hl := fit_lt e6
        by_cases c6 : (A k).1 = 6
        · rw [c6]; rfl
        · rw [if_neg c6, if_neg (show ¬ nI (A k).1 = 6 from fun z => c6 ((nI_eq (b := 6) (by omega) (by decide)).mp z))]
      obtain ⟨ch, hch2, ech⟩ := vp_in_of hin (by unfold fp_cN; split <;> decide)
      have pos : (0 : Int32) ≤ fp_ch (A k).1 (A k).2.2.1 (A k).2.2.2 := by rw [ech]; exact nI_le (a := 0) (by omega) (by unfold fp_cN at hch2; split at hch2 <;> omega)
      rw [if_pos pos, hN, (md_choose hAm hp hkn hc).1]
      rcases md_I hF hp hA h2 hs hLO hkn hc (FB := FB) (Dy := fun y => D.set (x k) (fp_cs (A k).1 (A k).2.1 (A k).2.2.1 (A k).2.2.2 y)) (fun c y => hFB k c y hkn) (fp_cN (A k).1) 0 c m (by omega) h with ⟨m', i1, i2, i3⟩ | ⟨m', g, ig, i1, i2, i3⟩
      · rw [i1, i2, if_pos (by decide : (-1 : Int32) < 0)]
        exact ih (k + 1) _ _ (by omega) i3
      · rw [i1, i2, if_neg (nI_pos (by omega))]
        exact ⟨rfl, i3⟩
    · have hN : fm_mdN (nI (A k).1) = 0 := by unfold fm_mdN; rw [hch, if_pos rfl]
      rw [hm, if_neg (by decide : ¬ (0 : Int32) ≤ -1), hN]
      exact ih (k + 1) _ _ (by omega) h
end
