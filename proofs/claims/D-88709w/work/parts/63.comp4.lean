/-! PennyJudge: share (by tools/gen_p4.py) -/
set_option maxRecDepth 100000
/-- sharing: the weights u, what is shared x; the parts f, the rests g -/
def fc_shP (u : sx_M) (x : Int64) (set sum : Int32) (k : Nat) : Int64 := x * (fc_weightOf u set (nI k) sum).toInt64
def fc_shZ (k : Nat) (f : Nat → Int64) : Nat → Int64 := vp_updL f (nI k).toNatClampNeg 0
def fc_shA (u : sx_M) (x : Int64) (set sum : Int32) (w : Int64) (fr : Int32) (k : Nat) (z : Int64 × (Nat → Int64)) : Int64 × (Nat → Int64) := if nI k = fr then z else (z.1 - fc_whole (fc_shP u x set sum k) w 0, vp_updL z.2 (nI k).toNatClampNeg (fc_whole (fc_shP u x set sum k) w 0))
def fc_shB (u : sx_M) (x : Int64) (set sum : Int32) (w : Int64) (k : Nat) (z : Int64 × (Nat → Int64) × (Nat → Int64)) : Int64 × (Nat → Int64) × (Nat → Int64) := (z.1 - fc_floor (fc_shP u x set sum k) w, vp_updL z.2.1 (nI k).toNatClampNeg (fc_floor (fc_shP u x set sum k) w), vp_updL z.2.2 (nI k).toNatClampNeg (fc_shP u x set sum k - fc_floor (fc_shP u x set sum k) w * w))
def fc_shC (u : sx_M) (set sum : Int32) : Nat → Nat → Int64 × (Nat → Int64) → Int64 × (Nat → Int64)
  | 0, _, z => z
  | e + 1, k, z => if z.1 ≤ 0 then z else if fc_weightOf u set (nI k) sum = 0 then fc_shC u set sum e (k + 1) z else fc_shC u set sum e (k + 1) (z.1 - 1, vp_updL z.2 (nI k).toNatClampNeg (z.2 (nI k).toNatClampNeg + 1))
def fc_shM (g : Nat → Int64) (k : Nat) (b : Int32) : Int32 := if g (nI (k + 1)).toNatClampNeg ≤ g b.toNatClampNeg then b else nI (k + 1)
def fc_shX (g : Nat → Int64) (n : Nat) : Int32 := it_up (fc_shM g) (n - 1) 0 0
def fc_shD (n : Nat) : Nat → Int64 × (Nat → Int64) × (Nat → Int64) → Int64 × (Nat → Int64) × (Nat → Int64)
  | 0, z => z
  | e + 1, z => if z.1 ≤ 0 then z else fc_shD n e (z.1 - 1, vp_updL z.2.1 (fc_shX z.2.2 n).toNatClampNeg (z.2.1 (fc_shX z.2.2 n).toNatClampNeg + 1), vp_updL z.2.2 (fc_shX z.2.2 n).toNatClampNeg (-1))
theorem fc_upL (f : Nat → Int64) (i : Nat) (v : Int64) : vp_updL f i v i = v := pk_uLs
theorem ly_shZ_0 {G : pj_G} {d : Nat} {c : sx_C} {m : sx_M} {o : Nat → Int64} {D : pj_H} {Q : pj_O → pj_H → Prop} (x : Int64) (set rule sum : Int32) (n : Nat) (hn8 : n ≤ 8) (w left : Int64) (f g : Nat → Int64) (hset : vp_in set 4) (hw0 : ¬ w = 0) (k : Nat) (hk : k < 8) (kk : pj_J G mX1_share (d + 2) 43 [some (.ref 2), some (.long x), none, some (.int set), some (.int rule), some (.ref 14), some (.int sum), some (.int (nI n)), some (.long w), none, some (.int (nI k + 1)), none, none, none, none] [] (sx_mk (sx_sR (sx_sM c (sx_sL c.1 14 g)) 0 (sx_sL (sx_R c 0) 3 (fc_shZ k f))) m o D) 0 0 Q) : pj_J G mX1_share (d + 2) 43 [some (.ref 2), some (.long x), none, some (.int set), some (.int rule), some (.ref 14), some (.int sum), some (.int (nI n)), some (.long w), none, some (.int (nI k)), none, none, none, none] [] (sx_mk (sx_sR (sx_sM c (sx_sL c.1 14 g)) 0 (sx_sL (sx_R c 0) 3 f)) m o D) 0 0 Q := by
  refine pj_J.go (oX1_share G) 3 rfl trivial ?_
  refine pj_J.neg (nI_lt_lit hk (by decide)) ?_
  refine pj_J.go (oX1_share G) 6 rfl ⟨by exact vp_in_lit (by omega), trivial⟩ ?_
  exact pj_J.drp kk ⟨rfl, rfl, rfl, rfl, rfl, rfl, rfl, rfl, rfl, trivial⟩
theorem ly_shA_0 {G : pj_G} {d : Nat} {c : sx_C} {m : sx_M} {o : Nat → Int64} {D : pj_H} {Q : pj_O → pj_H → Prop} (x : Int64) (set rule sum : Int32) (n : Nat) (hn8 : n ≤ 8) (w left : Int64) (f g : Nat → Int64) (hset : vp_in set 4) (hw0 : ¬ w = 0) (fr : Int32) (hfr : vp_in fr 8) (k : Nat) (hk : k < n) (kk : pj_J G mX1_share (d + 2) 90 [some (.ref 2), some (.long x), none, some (.int set), some (.int rule), some (.ref 14), some (.int sum), some (.int (nI n)), some (.long w), none, some (.long ((fc_shA c.1 x set sum w fr k (left, f)).1)), none, some (.int fr), some (.int (nI k + 1)), none] [] (sx_mk (sx_sR (sx_sM c (sx_sL c.1 14 g)) 0 (sx_sL (sx_R c 0) 3 ((fc_shA c.1 x set sum w fr k (left, f)).2))) m o D) 0 0 Q) : pj_J G mX1_share (d + 2) 90 [some (.ref 2), some (.long x), none, some (.int set), some (.int rule), some (.ref 14), some (.int sum), some (.int (nI n)), some (.long w), none, some (.long left), none, some (.int fr), some (.int (nI k)), none] [] (sx_mk (sx_sR (sx_sM c (sx_sL c.1 14 g)) 0 (sx_sL (sx_R c 0) 3 f)) m o D) 0 0 Q := by
  refine pj_J.go (oX1_share G) 3 rfl trivial ?_
  refine pj_J.neg (nI_lt_lit hk (by omega)) ?_
  refine pj_J.go (oX1_share G) 3 rfl trivial ?_
  refine pj_J.ite (fun hc101 => ?_) (fun hc101 => ?_)
  · skip
    refine pj_J.go (oX1_share G) 3 rfl trivial ?_
    unfold fc_shA at kk
    rw [if_pos (show (nI k) = fr from hc101)] at kk
    exact pj_J.drp kk ⟨rfl, rfl, rfl, rfl, rfl, rfl, rfl, rfl, rfl, rfl, rfl, trivial⟩
  · skip
    refine pj_J.go (oX1_share G) 7 rfl trivial ?_
    refine pj_J.cal0 kX1_share_118 (c_X1_weightOf (c := (sx_sR (sx_sM c (sx_sL c.1 14 g)) 0 (sx_sL (sx_R c 0) 3 f))) set (nI k) sum hset (vp_in_lit (by omega))) ⟨_, _, _, rfl, rfl⟩ pj_le0 pj_le0 pj_le0 ?_
    refine pj_J.go (oX1_share G) 4 rfl trivial ?_
    refine pj_J.cal0 kX1_share_126 (c_X1_whole (x * (fc_weightOf c.1 set (nI k) sum).toInt64) w (0 : Int32) hw0) trivial pj_le0 pj_le0 pj_le0 ?_
    refine pj_J.go (oX1_share G) 9 rfl ⟨by exact vp_in_lit (by omega), by exact vp_in_lit (by omega), trivial⟩ ?_
    unfold fc_shA at kk
    rw [if_neg (show ¬ ((nI k) = fr) from hc101)] at kk
    simp only [fc_upL]
    exact pj_J.drp kk ⟨rfl, rfl, rfl, rfl, rfl, rfl, rfl, rfl, rfl, rfl, rfl, trivial⟩
theorem lz_shA_0 {G : pj_G} {d : Nat} {c : sx_C} {m : sx_M} {o : Nat → Int64} {D : pj_H} {Q : pj_O → pj_H → Prop} (x : Int64) (set rule sum : Int32) (n : Nat) (hn8 : n ≤ 8) (w left : Int64) (f g : Nat → Int64) (hset : vp_in set 4) (hw0 : ¬ w = 0) (fr : Int32) (hfr : vp_in fr 8) (q : Q (.inl none) (sx_mk (sx_sR (sx_sM c (sx_sL c.1 14 g)) 0 (sx_sL (sx_R c 0) 3 (vp_updL f fr.toNatClampNeg left))) m o D)) : pj_J G mX1_share (d + 2) 90 [some (.ref 2), some (.long x), none, some (.int set), some (.int rule), some (.ref 14), some (.int sum), some (.int (nI n)), some (.long w), none, some (.long left), none, some (.int fr), some (.int (nI n)), none] [] (sx_mk (sx_sR (sx_sM c (sx_sL c.1 14 g)) 0 (sx_sL (sx_R c 0) 3 f)) m o D) 0 0 Q := by
  refine pj_J.go (oX1_share G) 3 rfl trivial ?_
  refine pj_J.pos (nI_ge_lit (Nat.le_refl _) (by omega)) ?_
  refine pj_J.go (oX1_share G) 4 rfl ⟨by exact hfr, trivial⟩ ?_
  exact pj_vret dX1_share_153 rfl q
theorem ly_shB_0 {G : pj_G} {d : Nat} {c : sx_C} {m : sx_M} {o : Nat → Int64} {D : pj_H} {Q : pj_O → pj_H → Prop} (x : Int64) (set rule sum : Int32) (n : Nat) (hn8 : n ≤ 8) (w left : Int64) (f g : Nat → Int64) (hset : vp_in set 4) (hw0 : ¬ w = 0) (k : Nat) (hk : k < n) (kk : pj_J G mX1_share (d + 2) 157 [some (.ref 2), some (.long x), none, some (.int set), some (.int rule), some (.ref 14), some (.int sum), some (.int (nI n)), some (.long w), none, some (.long ((fc_shB c.1 x set sum w k (left, f, g)).1)), none, some (.int (nI k + 1)), none, none] [] (sx_mk (sx_sR (sx_sM c (sx_sL c.1 14 ((fc_shB c.1 x set sum w k (left, f, g)).2.2))) 0 (sx_sL (sx_R c 0) 3 ((fc_shB c.1 x set sum w k (left, f, g)).2.1))) m o D) 0 0 Q) : pj_J G mX1_share (d + 2) 157 [some (.ref 2), some (.long x), none, some (.int set), some (.int rule), some (.ref 14), some (.int sum), some (.int (nI n)), some (.long w), none, some (.long left), none, some (.int (nI k)), none, none] [] (sx_mk (sx_sR (sx_sM c (sx_sL c.1 14 g)) 0 (sx_sL (sx_R c 0) 3 f)) m o D) 0 0 Q := by
  refine pj_J.go (oX1_share G) 3 rfl trivial ?_
  refine pj_J.neg (nI_lt_lit hk (by omega)) ?_
  refine pj_J.go (oX1_share G) 5 rfl trivial ?_
  refine pj_J.cal0 kX1_share_171 (c_X1_weightOf (c := (sx_sR (sx_sM c (sx_sL c.1 14 g)) 0 (sx_sL (sx_R c 0) 3 f))) set (nI k) sum hset (vp_in_lit (by omega))) ⟨_, _, _, rfl, rfl⟩ pj_le0 pj_le0 pj_le0 ?_
  refine pj_J.go (oX1_share G) 7 rfl trivial ?_
  refine pj_J.cal0 kX1_share_186 (c_X1_floorOf (x * (fc_weightOf c.1 set (nI k) sum).toInt64) w hw0) trivial pj_le0 pj_le0 pj_le0 ?_
  refine pj_J.go (oX1_share G) 20 rfl ⟨by exact vp_in_lit (by omega), by exact vp_in_lit (by omega), by exact vp_in_lit (by omega), by exact vp_in_lit (by omega), trivial⟩ ?_
  unfold fc_shB at kk
  simp only [fc_upL]
  exact pj_J.drp kk ⟨rfl, rfl, rfl, rfl, rfl, rfl, rfl, rfl, rfl, rfl, trivial⟩
theorem lz_shB1_0 {G : pj_G} {d : Nat} {c : sx_C} {m : sx_M} {o : Nat → Int64} {D : pj_H} {Q : pj_O → pj_H → Prop} (x : Int64) (set rule sum : Int32) (n : Nat) (hn8 : n ≤ 8) (w left : Int64) (f g : Nat → Int64) (hset : vp_in set 4) (hw0 : ¬ w = 0) (hr : rule = 1) (kk : pj_J G mX1_share (d + 2) 233 [some (.ref 2), some (.long x), none, some (.int set), some (.int rule), some (.ref 14), some (.int sum), some (.int (nI n)), some (.long w), none, some (.long left), none, some (.int (nI 0)), none, none] [] (sx_mk (sx_sR (sx_sM c (sx_sL c.1 14 g)) 0 (sx_sL (sx_R c 0) 3 f)) m o D) 0 0 Q) : pj_J G mX1_share (d + 2) 157 [some (.ref 2), some (.long x), none, some (.int set), some (.int rule), some (.ref 14), some (.int sum), some (.int (nI n)), some (.long w), none, some (.long left), none, some (.int (nI n)), none, none] [] (sx_mk (sx_sR (sx_sM c (sx_sL c.1 14 g)) 0 (sx_sL (sx_R c 0) 3 f)) m o D) 0 0 Q := by
  refine pj_J.go (oX1_share G) 3 rfl trivial ?_
  refine pj_J.pos (nI_ge_lit (Nat.le_refl _) (by omega)) ?_
  refine pj_J.go (oX1_share G) 3 rfl trivial ?_
  refine pj_J.pos (hr) ?_
  refine pj_J.go (oX1_share G) 2 rfl trivial ?_
  exact pj_J.drp kk ⟨rfl, rfl, rfl, rfl, rfl, rfl, rfl, rfl, rfl, rfl, trivial⟩
theorem lz_shB0_0 {G : pj_G} {d : Nat} {c : sx_C} {m : sx_M} {o : Nat → Int64} {D : pj_H} {Q : pj_O → pj_H → Prop} (x : Int64) (set rule sum : Int32) (n : Nat) (hn8 : n ≤ 8) (w left : Int64) (f g : Nat → Int64) (hset : vp_in set 4) (hw0 : ¬ w = 0) (hr : ¬ rule = 1) (kk : pj_J G mX1_share (d + 2) 284 [some (.ref 2), some (.long x), none, some (.int set), some (.int rule), some (.ref 14), some (.int sum), some (.int (nI n)), some (.long w), none, some (.long left), none, none, none, none] [] (sx_mk (sx_sR (sx_sM c (sx_sL c.1 14 g)) 0 (sx_sL (sx_R c 0) 3 f)) m o D) 0 0 Q) : pj_J G mX1_share (d + 2) 157 [some (.ref 2), some (.long x), none, some (.int set), some (.int rule), some (.ref 14), some (.int sum), some (.int (nI n)), some (.long w), none, some (.long left), none, some (.int (nI n)), none, none] [] (sx_mk (sx_sR (sx_sM c (sx_sL c.1 14 g)) 0 (sx_sL (sx_R c 0) 3 f)) m o D) 0 0 Q := by
  refine pj_J.go (oX1_share G) 3 rfl trivial ?_
  refine pj_J.pos (nI_ge_lit (Nat.le_refl _) (by omega)) ?_
  refine pj_J.go (oX1_share G) 3 rfl trivial ?_
  refine pj_J.neg (hr) ?_
  exact pj_J.drp kk ⟨rfl, rfl, rfl, rfl, rfl, rfl, rfl, rfl, rfl, trivial⟩
theorem ly_shC_0 {G : pj_G} {d : Nat} {c : sx_C} {m : sx_M} {o : Nat → Int64} {D : pj_H} {Q : pj_O → pj_H → Prop} (x : Int64) (set rule sum : Int32) (n : Nat) (hn8 : n ≤ 8) (w left : Int64) (f g : Nat → Int64) (hset : vp_in set 4) (hw0 : ¬ w = 0) (k : Nat) (hk : k < n) (hl : ¬ left ≤ 0) (k1 : fc_weightOf c.1 set (nI k) sum = 0 → pj_J G mX1_share (d + 2) 233 [some (.ref 2), some (.long x), none, some (.int set), some (.int rule), some (.ref 14), some (.int sum), some (.int (nI n)), some (.long w), none, some (.long left), none, some (.int (nI k + 1)), none, none] [] (sx_mk (sx_sR (sx_sM c (sx_sL c.1 14 g)) 0 (sx_sL (sx_R c 0) 3 f)) m o D) 0 0 Q) (k2 : ¬ fc_weightOf c.1 set (nI k) sum = 0 → pj_J G mX1_share (d + 2) 233 [some (.ref 2), some (.long x), none, some (.int set), some (.int rule), some (.ref 14), some (.int sum), some (.int (nI n)), some (.long w), none, some (.long (left - 1)), none, some (.int (nI k + 1)), none, none] [] (sx_mk (sx_sR (sx_sM c (sx_sL c.1 14 g)) 0 (sx_sL (sx_R c 0) 3 (vp_updL f (nI k).toNatClampNeg (f (nI k).toNatClampNeg + 1)))) m o D) 0 0 Q) : pj_J G mX1_share (d + 2) 233 [some (.ref 2), some (.long x), none, some (.int set), some (.int rule), some (.ref 14), some (.int sum), some (.int (nI n)), some (.long w), none, some (.long left), none, some (.int (nI k)), none, none] [] (sx_mk (sx_sR (sx_sM c (sx_sL c.1 14 g)) 0 (sx_sL (sx_R c 0) 3 f)) m o D) 0 0 Q := by
  refine pj_J.go (oX1_share G) 3 rfl trivial ?_
  refine pj_J.neg (nI_lt_lit hk (by omega)) ?_
  refine pj_J.go (oX1_share G) 4 rfl trivial ?_
  refine pj_J.neg (by rw [pj_lc_le]; exact hl) ?_
  refine pj_J.go (oX1_share G) 4 rfl trivial ?_
  refine pj_J.cal0 kX1_share_253 (c_X1_weightOf (c := (sx_sR (sx_sM c (sx_sL c.1 14 g)) 0 (sx_sL (sx_R c 0) 3 f))) set (nI k) sum hset (vp_in_lit (by omega))) ⟨_, _, _, rfl, rfl⟩ pj_le0 pj_le0 pj_le0 ?_
  refine pj_J.go (oX1_share G) 1 rfl trivial ?_
  refine pj_J.ite (fun hc256 => ?_) (fun hc256 => ?_)
  · skip
    refine pj_J.go (oX1_share G) 3 rfl trivial ?_
    exact pj_J.drp (k1 hc256) ⟨rfl, rfl, rfl, rfl, rfl, rfl, rfl, rfl, rfl, rfl, trivial⟩
  · skip
    refine pj_J.go (oX1_share G) 13 rfl ⟨by exact vp_in_lit (by omega), by exact vp_in_lit (by omega), trivial⟩ ?_
    exact pj_J.drp (k2 hc256) ⟨rfl, rfl, rfl, rfl, rfl, rfl, rfl, rfl, rfl, rfl, trivial⟩
theorem lz_shC_0 {G : pj_G} {d : Nat} {c : sx_C} {m : sx_M} {o : Nat → Int64} {D : pj_H} {Q : pj_O → pj_H → Prop} (x : Int64) (set rule sum : Int32) (n : Nat) (hn8 : n ≤ 8) (w left : Int64) (f g : Nat → Int64) (hset : vp_in set 4) (hw0 : ¬ w = 0) (k : Nat) (hk : k ≤ n) (hx : k = n ∨ left ≤ 0) (q : Q (.inl none) (sx_mk (sx_sR (sx_sM c (sx_sL c.1 14 g)) 0 (sx_sL (sx_R c 0) 3 f)) m o D)) : pj_J G mX1_share (d + 2) 233 [some (.ref 2), some (.long x), none, some (.int set), some (.int rule), some (.ref 14), some (.int sum), some (.int (nI n)), some (.long w), none, some (.long left), none, some (.int (nI k)), none, none] [] (sx_mk (sx_sR (sx_sM c (sx_sL c.1 14 g)) 0 (sx_sL (sx_R c 0) 3 f)) m o D) 0 0 Q := by
  refine pj_J.go (oX1_share G) 3 rfl trivial ?_
  refine pj_J.ite (fun hc237 => ?_) (fun hc237 => ?_)
  · skip
    exact pj_vret dX1_share_283 rfl q
  · skip
    refine pj_J.go (oX1_share G) 4 rfl trivial ?_
    refine pj_J.ite (fun hc244 => ?_) (fun hc244 => ?_)
    · simp only [pj_lc_le] at hc244
      exact pj_vret dX1_share_283 rfl q
    · simp only [pj_lc_le] at hc244
      exfalso
      rcases hx with hx | hx
      · subst hx; exact hc237 (nI_ge_lit (Nat.le_refl _) (by omega))
      · exact hc244 hx
theorem lz_shD_0 {G : pj_G} {d : Nat} {c : sx_C} {m : sx_M} {o : Nat → Int64} {D : pj_H} {Q : pj_O → pj_H → Prop} (x : Int64) (set rule sum : Int32) (n : Nat) (hn8 : n ≤ 8) (w left : Int64) (f g : Nat → Int64) (hset : vp_in set 4) (hw0 : ¬ w = 0) (hl : left ≤ 0) (q : Q (.inl none) (sx_mk (sx_sR (sx_sM c (sx_sL c.1 14 g)) 0 (sx_sL (sx_R c 0) 3 f)) m o D)) : pj_J G mX1_share (d + 2) 284 [some (.ref 2), some (.long x), none, some (.int set), some (.int rule), some (.ref 14), some (.int sum), some (.int (nI n)), some (.long w), none, some (.long left), none, none, none, none] [] (sx_mk (sx_sR (sx_sM c (sx_sL c.1 14 g)) 0 (sx_sL (sx_R c 0) 3 f)) m o D) 0 0 Q := by
  refine pj_J.go (oX1_share G) 4 rfl trivial ?_
  refine pj_J.pos (by rw [pj_lc_le]; exact hl) ?_
  exact pj_vret dX1_share_360 rfl q
theorem lx_shD_0 {G : pj_G} {d : Nat} {c : sx_C} {m : sx_M} {o : Nat → Int64} {D : pj_H} {Q : pj_O → pj_H → Prop} (x : Int64) (set rule sum : Int32) (n : Nat) (hn8 : n ≤ 8) (w left : Int64) (f g : Nat → Int64) (hset : vp_in set 4) (hw0 : ¬ w = 0) (hl : ¬ left ≤ 0) (kk : pj_J G mX1_share (d + 2) 297 [some (.ref 2), some (.long x), none, some (.int set), some (.int rule), some (.ref 14), some (.int sum), some (.int (nI n)), some (.long w), none, some (.long left), none, some (.int 0), some (.int (nI 1)), none] [] (sx_mk (sx_sR (sx_sM c (sx_sL c.1 14 g)) 0 (sx_sL (sx_R c 0) 3 f)) m o D) 0 0 Q) : pj_J G mX1_share (d + 2) 284 [some (.ref 2), some (.long x), none, some (.int set), some (.int rule), some (.ref 14), some (.int sum), some (.int (nI n)), some (.long w), none, some (.long left), none, none, none, none] [] (sx_mk (sx_sR (sx_sM c (sx_sL c.1 14 g)) 0 (sx_sL (sx_R c 0) 3 f)) m o D) 0 0 Q := by
  refine pj_J.go (oX1_share G) 4 rfl trivial ?_
  refine pj_J.neg (by rw [pj_lc_le]; exact hl) ?_
  refine pj_J.go (oX1_share G) 4 rfl trivial ?_
  exact pj_J.drp kk ⟨rfl, rfl, rfl, rfl, rfl, rfl, rfl, rfl, rfl, rfl, rfl, trivial⟩
theorem ly_shM_0 {G : pj_G} {d : Nat} {c : sx_C} {m : sx_M} {o : Nat → Int64} {D : pj_H} {Q : pj_O → pj_H → Prop} (x : Int64) (set rule sum : Int32) (n : Nat) (hn8 : n ≤ 8) (w left : Int64) (f g : Nat → Int64) (hset : vp_in set 4) (hw0 : ¬ w = 0) (b : Int32) (hb : vp_in b 8) (k : Nat) (hk : k + 1 < n) (kk : pj_J G mX1_share (d + 2) 297 [some (.ref 2), some (.long x), none, some (.int set), some (.int rule), some (.ref 14), some (.int sum), some (.int (nI n)), some (.long w), none, some (.long left), none, some (.int (fc_shM g k b)), some (.int (nI (k + 1) + 1)), none] [] (sx_mk (sx_sR (sx_sM c (sx_sL c.1 14 g)) 0 (sx_sL (sx_R c 0) 3 f)) m o D) 0 0 Q) : pj_J G mX1_share (d + 2) 297 [some (.ref 2), some (.long x), none, some (.int set), some (.int rule), some (.ref 14), some (.int sum), some (.int (nI n)), some (.long w), none, some (.long left), none, some (.int b), some (.int (nI (k + 1))), none] [] (sx_mk (sx_sR (sx_sM c (sx_sL c.1 14 g)) 0 (sx_sL (sx_R c 0) 3 f)) m o D) 0 0 Q := by
  refine pj_J.go (oX1_share G) 3 rfl trivial ?_
  refine pj_J.neg (nI_lt_lit hk (by omega)) ?_
  refine pj_J.go (oX1_share G) 10 rfl ⟨by exact vp_in_lit (by omega), by exact hb, trivial⟩ ?_
  refine pj_J.ite (fun hc319 => ?_) (fun hc319 => ?_)
  · simp only [pj_lc_le] at hc319
    refine pj_J.go (oX1_share G) 2 rfl trivial ?_
    unfold fc_shM at kk
    rw [if_pos (show (g (nI (k + 1)).toNatClampNeg) ≤ (g b.toNatClampNeg) from hc319)] at kk
    exact pj_J.drp kk ⟨rfl, rfl, rfl, rfl, rfl, rfl, rfl, rfl, rfl, rfl, rfl, trivial⟩
  · simp only [pj_lc_le] at hc319
    refine pj_J.go (oX1_share G) 4 rfl trivial ?_
    unfold fc_shM at kk
    rw [if_neg (show ¬ ((g (nI (k + 1)).toNatClampNeg) ≤ (g b.toNatClampNeg)) from hc319)] at kk
    exact pj_J.drp kk ⟨rfl, rfl, rfl, rfl, rfl, rfl, rfl, rfl, rfl, rfl, rfl, trivial⟩
theorem lz_shM_0 {G : pj_G} {d : Nat} {c : sx_C} {m : sx_M} {o : Nat → Int64} {D : pj_H} {Q : pj_O → pj_H → Prop} (x : Int64) (set rule sum : Int32) (n : Nat) (hn8 : n ≤ 8) (w left : Int64) (f g : Nat → Int64) (hset : vp_in set 4) (hw0 : ¬ w = 0) (b : Int32) (hb : vp_in b 8) (k : Nat) (hk : n ≤ k) (hk9 : k ≤ 9) (kk : pj_J G mX1_share (d + 2) 284 [some (.ref 2), some (.long x), none, some (.int set), some (.int rule), some (.ref 14), some (.int sum), some (.int (nI n)), some (.long w), none, some (.long (left - 1)), none, none, none, none] [] (sx_mk (sx_sR (sx_sM c (sx_sL c.1 14 (vp_updL g b.toNatClampNeg (-1)))) 0 (sx_sL (sx_R c 0) 3 (vp_updL f b.toNatClampNeg (f b.toNatClampNeg + 1)))) m o D) 0 0 Q) : pj_J G mX1_share (d + 2) 297 [some (.ref 2), some (.long x), none, some (.int set), some (.int rule), some (.ref 14), some (.int sum), some (.int (nI n)), some (.long w), none, some (.long left), none, some (.int b), some (.int (nI k)), none] [] (sx_mk (sx_sR (sx_sM c (sx_sL c.1 14 g)) 0 (sx_sL (sx_R c 0) 3 f)) m o D) 0 0 Q := by
  refine pj_J.go (oX1_share G) 3 rfl trivial ?_
  refine pj_J.pos (nI_ge_lit hk (by omega)) ?_
  refine pj_J.go (oX1_share G) 17 rfl ⟨by exact hb, by exact hb, by exact hb, trivial⟩ ?_
  exact pj_J.drp kk ⟨rfl, rfl, rfl, rfl, rfl, rfl, rfl, rfl, rfl, trivial⟩
theorem lp_shC_0 {G : pj_G} {d : Nat} {c : sx_C} {m : sx_M} {o : Nat → Int64} {D : pj_H} {Q : pj_O → pj_H → Prop} (x : Int64) (set rule sum : Int32) (n : Nat) (hn8 : n ≤ 8) (w : Int64) (g : Nat → Int64) (hset : vp_in set 4) (hw0 : ¬ w = 0) : ∀ (e k : Nat) (left : Int64) (f : Nat → Int64), k + e = n → Q (.inl none) (sx_mk (sx_sR (sx_sM c (sx_sL c.1 14 g)) 0 (sx_sL (sx_R c 0) 3 ((fc_shC c.1 set sum e k (left, f)).2))) m o D) → pj_J G mX1_share (d + 2) 233 [some (.ref 2), some (.long x), none, some (.int set), some (.int rule), some (.ref 14), some (.int sum), some (.int (nI n)), some (.long w), none, some (.long left), none, some (.int (nI k)), none, none] [] (sx_mk (sx_sR (sx_sM c (sx_sL c.1 14 g)) 0 (sx_sL (sx_R c 0) 3 f)) m o D) 0 0 Q := by
  intro e
  induction e with
  | zero =>
    intro k left f hk q
    exact lz_shC_0 x set rule sum n hn8 w left f g hset hw0 k (by omega) (Or.inl (by omega)) q
  | succ e ih =>
    intro k left f hk q
    unfold fc_shC at q
    by_cases hl : left ≤ 0
    · rw [if_pos hl] at q
      exact lz_shC_0 x set rule sum n hn8 w left f g hset hw0 k (by omega) (Or.inr hl) q
    · rw [if_neg hl] at q
      refine ly_shC_0 x set rule sum n hn8 w left f g hset hw0 k (by omega) hl (fun h => ?_) (fun h => ?_)
      · rw [if_pos h] at q
        rw [nI_add1]
        exact ih (k + 1) left f (by omega) q
      · rw [if_neg h] at q
        rw [nI_add1]
        exact ih (k + 1) _ _ (by omega) q
theorem fc_shM_vp {g : Nat → Int64} {k : Nat} {b : Int32} (hb : vp_in b 8) (hk : k + 1 < 8) : vp_in (fc_shM g k b) 8 := by
  unfold fc_shM
  split
  · exact hb
  · exact vp_in_lit hk
theorem lp_shD_0 {G : pj_G} {d : Nat} {c : sx_C} {m : sx_M} {o : Nat → Int64} {D : pj_H} {Q : pj_O → pj_H → Prop} (x : Int64) (set rule sum : Int32) (n : Nat) (hn8 : n ≤ 8) (hn1 : 1 ≤ n) (w : Int64) (hset : vp_in set 4) (hw0 : ¬ w = 0) : ∀ (e : Nat) (left : Int64) (f g : Nat → Int64), (fc_shD n e (left, f, g)).1 ≤ 0 → Q (.inl none) (sx_mk (sx_sR (sx_sM c (sx_sL c.1 14 ((fc_shD n e (left, f, g)).2.2))) 0 (sx_sL (sx_R c 0) 3 ((fc_shD n e (left, f, g)).2.1))) m o D) → pj_J G mX1_share (d + 2) 284 [some (.ref 2), some (.long x), none, some (.int set), some (.int rule), some (.ref 14), some (.int sum), some (.int (nI n)), some (.long w), none, some (.long left), none, none, none, none] [] (sx_mk (sx_sR (sx_sM c (sx_sL c.1 14 g)) 0 (sx_sL (sx_R c 0) 3 f)) m o D) 0 0 Q := by
  intro e
  induction e with
  | zero =>
    intro left f g hl q
    exact lz_shD_0 x set rule sum n hn8 w left f g hset hw0 hl q
  | succ e ih =>
    intro left f g hl q
    unfold fc_shD at q hl
    by_cases h : left ≤ 0
    · rw [if_pos h] at q hl
      exact lz_shD_0 x set rule sum n hn8 w left f g hset hw0 h q
    · rw [if_neg h] at q hl
      refine lx_shD_0 x set rule sum n hn8 w left f g hset hw0 h ?_
      refine pj_for (fun k b => pj_J G mX1_share (d + 2) 297 [some (.ref 2), some (.long x), none, some (.int set), some (.int rule), some (.ref 14), some (.int sum), some (.int (nI n)), some (.long w), none, some (.long left), none, some (.int b), some (.int (nI (k + 1))), none] [] (sx_mk (sx_sR (sx_sM c (sx_sL c.1 14 g)) 0 (sx_sL (sx_R c 0) 3 f)) m o D) 0 0 Q) (fc_shM g) (fun _ b => vp_in b 8) (n - 1) (fun k b hk hi => ⟨fc_shM_vp hi (by omega), fun kk => ly_shM_0 x set rule sum n hn8 w left f g hset hw0 b hi k (by omega) (by rw [nI_add1]; exact kk)⟩) (n - 1) 0 0 (by simp) (vp_in_lit (k := 0) (by decide)) (fun hi => ?_)
      refine lz_shM_0 x set rule sum n hn8 w left f g hset hw0 _ hi (n - 1 + 1) (by omega) (by omega) ?_
      exact ih _ _ _ hl q
theorem ly_shZ_1 {G : pj_G} {d : Nat} {c : sx_C} {m : sx_M} {o : Nat → Int64} {D : pj_H} {Q : pj_O → pj_H → Prop} (x : Int64) (set rule sum : Int32) (n : Nat) (hn8 : n ≤ 8) (w left : Int64) (f g : Nat → Int64) (hset : vp_in set 4) (hw0 : ¬ w = 0) (k : Nat) (hk : k < 8) (kk : pj_J G mX1_share (d + 2) 43 [some (.ref 2), some (.long x), none, some (.int set), some (.int rule), some (.ref 25), some (.int sum), some (.int (nI n)), some (.long w), none, some (.int (nI k + 1)), none, none, none, none] [] (sx_mk (sx_sR (sx_sM c (sx_sL c.1 14 g)) 1 (sx_sL (sx_R c 1) 3 (fc_shZ k f))) m o D) 0 0 Q) : pj_J G mX1_share (d + 2) 43 [some (.ref 2), some (.long x), none, some (.int set), some (.int rule), some (.ref 25), some (.int sum), some (.int (nI n)), some (.long w), none, some (.int (nI k)), none, none, none, none] [] (sx_mk (sx_sR (sx_sM c (sx_sL c.1 14 g)) 1 (sx_sL (sx_R c 1) 3 f)) m o D) 0 0 Q := by
  refine pj_J.go (oX1_share G) 3 rfl trivial ?_
  refine pj_J.neg (nI_lt_lit hk (by decide)) ?_
  refine pj_J.go (oX1_share G) 6 rfl ⟨by exact vp_in_lit (by omega), trivial⟩ ?_
  exact pj_J.drp kk ⟨rfl, rfl, rfl, rfl, rfl, rfl, rfl, rfl, rfl, trivial⟩
theorem ly_shA_1 {G : pj_G} {d : Nat} {c : sx_C} {m : sx_M} {o : Nat → Int64} {D : pj_H} {Q : pj_O → pj_H → Prop} (x : Int64) (set rule sum : Int32) (n : Nat) (hn8 : n ≤ 8) (w left : Int64) (f g : Nat → Int64) (hset : vp_in set 4) (hw0 : ¬ w = 0) (fr : Int32) (hfr : vp_in fr 8) (k : Nat) (hk : k < n) (kk : pj_J G mX1_share (d + 2) 90 [some (.ref 2), some (.long x), none, some (.int set), some (.int rule), some (.ref 25), some (.int sum), some (.int (nI n)), some (.long w), none, some (.long ((fc_shA c.1 x set sum w fr k (left, f)).1)), none, some (.int fr), some (.int (nI k + 1)), none] [] (sx_mk (sx_sR (sx_sM c (sx_sL c.1 14 g)) 1 (sx_sL (sx_R c 1) 3 ((fc_shA c.1 x set sum w fr k (left, f)).2))) m o D) 0 0 Q) : pj_J G mX1_share (d + 2) 90 [some (.ref 2), some (.long x), none, some (.int set), some (.int rule), some (.ref 25), some (.int sum), some (.int (nI n)), some (.long w), none, some (.long left), none, some (.int fr), some (.int (nI k)), none] [] (sx_mk (sx_sR (sx_sM c (sx_sL c.1 14 g)) 1 (sx_sL (sx_R c 1) 3 f)) m o D) 0 0 Q := by
  refine pj_J.go (oX1_share G) 3 rfl trivial ?_
  refine pj_J.neg (nI_lt_lit hk (by omega)) ?_
  refine pj_J.go (oX1_share G) 3 rfl trivial ?_
  refine pj_J.ite (fun hc101 => ?_) (fun hc101 => ?_)
  · skip
    refine pj_J.go (oX1_share G) 3 rfl trivial ?_
    unfold fc_shA at kk
    rw [if_pos (show (nI k) = fr from hc101)] at kk
    exact pj_J.drp kk ⟨rfl, rfl, rfl, rfl, rfl, rfl, rfl, rfl, rfl, rfl, rfl, trivial⟩
  · skip
    refine pj_J.go (oX1_share G) 7 rfl trivial ?_
    refine pj_J.cal0 kX1_share_118 (c_X1_weightOf (c := (sx_sR (sx_sM c (sx_sL c.1 14 g)) 1 (sx_sL (sx_R c 1) 3 f))) set (nI k) sum hset (vp_in_lit (by omega))) ⟨_, _, _, rfl, rfl⟩ pj_le0 pj_le0 pj_le0 ?_
    refine pj_J.go (oX1_share G) 4 rfl trivial ?_
    refine pj_J.cal0 kX1_share_126 (c_X1_whole (x * (fc_weightOf c.1 set (nI k) sum).toInt64) w (0 : Int32) hw0) trivial pj_le0 pj_le0 pj_le0 ?_
    refine pj_J.go (oX1_share G) 9 rfl ⟨by exact vp_in_lit (by omega), by exact vp_in_lit (by omega), trivial⟩ ?_
    unfold fc_shA at kk
    rw [if_neg (show ¬ ((nI k) = fr) from hc101)] at kk
    simp only [fc_upL]
    exact pj_J.drp kk ⟨rfl, rfl, rfl, rfl, rfl, rfl, rfl, rfl, rfl, rfl, rfl, trivial⟩
theorem lz_shA_1 {G : pj_G} {d : Nat} {c : sx_C} {m : sx_M} {o : Nat → Int64} {D : pj_H} {Q : pj_O → pj_H → Prop} (x : Int64) (set rule sum : Int32) (n : Nat) (hn8 : n ≤ 8) (w left : Int64) (f g : Nat → Int64) (hset : vp_in set 4) (hw0 : ¬ w = 0) (fr : Int32) (hfr : vp_in fr 8) (q : Q (.inl none) (sx_mk (sx_sR (sx_sM c (sx_sL c.1 14 g)) 1 (sx_sL (sx_R c 1) 3 (vp_updL f fr.toNatClampNeg left))) m o D)) : pj_J G mX1_share (d + 2) 90 [some (.ref 2), some (.long x), none, some (.int set), some (.int rule), some (.ref 25), some (.int sum), some (.int (nI n)), some (.long w), none, some (.long left), none, some (.int fr), some (.int (nI n)), none] [] (sx_mk (sx_sR (sx_sM c (sx_sL c.1 14 g)) 1 (sx_sL (sx_R c 1) 3 f)) m o D) 0 0 Q := by
  refine pj_J.go (oX1_share G) 3 rfl trivial ?_
  refine pj_J.pos (nI_ge_lit (Nat.le_refl _) (by omega)) ?_
  refine pj_J.go (oX1_share G) 4 rfl ⟨by exact hfr, trivial⟩ ?_
  exact pj_vret dX1_share_153 rfl q
theorem ly_shB_1 {G : pj_G} {d : Nat} {c : sx_C} {m : sx_M} {o : Nat → Int64} {D : pj_H} {Q : pj_O → pj_H → Prop} (x : Int64) (set rule sum : Int32) (n : Nat) (hn8 : n ≤ 8) (w left : Int64) (f g : Nat → Int64) (hset : vp_in set 4) (hw0 : ¬ w = 0) (k : Nat) (hk : k < n) (kk : pj_J G mX1_share (d + 2) 157 [some (.ref 2), some (.long x), none, some (.int set), some (.int rule), some (.ref 25), some (.int sum), some (.int (nI n)), some (.long w), none, some (.long ((fc_shB c.1 x set sum w k (left, f, g)).1)), none, some (.int (nI k + 1)), none, none] [] (sx_mk (sx_sR (sx_sM c (sx_sL c.1 14 ((fc_shB c.1 x set sum w k (left, f, g)).2.2))) 1 (sx_sL (sx_R c 1) 3 ((fc_shB c.1 x set sum w k (left, f, g)).2.1))) m o D) 0 0 Q) : pj_J G mX1_share (d + 2) 157 [some (.ref 2), some (.long x), none, some (.int set), some (.int rule), some (.ref 25), some (.int sum), some (.int (nI n)), some (.long w), none, some (.long left), none, some (.int (nI k)), none, none] [] (sx_mk (sx_sR (sx_sM c (sx_sL c.1 14 g)) 1 (sx_sL (sx_R c 1) 3 f)) m o D) 0 0 Q := by
  refine pj_J.go (oX1_share G) 3 rfl trivial ?_
  refine pj_J.neg (nI_lt_lit hk (by omega)) ?_
  refine pj_J.go (oX1_share G) 5 rfl trivial ?_
  refine pj_J.cal0 kX1_share_171 (c_X1_weightOf (c := (sx_sR (sx_sM c (sx_sL c.1 14 g)) 1 (sx_sL (sx_R c 1) 3 f))) set (nI k) sum hset (vp_in_lit (by omega))) ⟨_, _, _, rfl, rfl⟩ pj_le0 pj_le0 pj_le0 ?_
  refine pj_J.go (oX1_share G) 7 rfl trivial ?_
  refine pj_J.cal0 kX1_share_186 (c_X1_floorOf (x * (fc_weightOf c.1 set (nI k) sum).toInt64) w hw0) trivial pj_le0 pj_le0 pj_le0 ?_
  refine pj_J.go (oX1_share G) 20 rfl ⟨by exact vp_in_lit (by omega), by exact vp_in_lit (by omega), by exact vp_in_lit (by omega), by exact vp_in_lit (by omega), trivial⟩ ?_
  unfold fc_shB at kk
  simp only [fc_upL]
  exact pj_J.drp kk ⟨rfl, rfl, rfl, rfl, rfl, rfl, rfl, rfl, rfl, rfl, trivial⟩
theorem lz_shB1_1 {G : pj_G} {d : Nat} {c : sx_C} {m : sx_M} {o : Nat → Int64} {D : pj_H} {Q : pj_O → pj_H → Prop} (x : Int64) (set rule sum : Int32) (n : Nat) (hn8 : n ≤ 8) (w left : Int64) (f g : Nat → Int64) (hset : vp_in set 4) (hw0 : ¬ w = 0) (hr : rule = 1) (kk : pj_J G mX1_share (d + 2) 233 [some (.ref 2), some (.long x), none, some (.int set), some (.int rule), some (.ref 25), some (.int sum), some (.int (nI n)), some (.long w), none, some (.long left), none, some (.int (nI 0)), none, none] [] (sx_mk (sx_sR (sx_sM c (sx_sL c.1 14 g)) 1 (sx_sL (sx_R c 1) 3 f)) m o D) 0 0 Q) : pj_J G mX1_share (d + 2) 157 [some (.ref 2), some (.long x), none, some (.int set), some (.int rule), some (.ref 25), some (.int sum), some (.int (nI n)), some (.long w), none, some (.long left), none, some (.int (nI n)), none, none] [] (sx_mk (sx_sR (sx_sM c (sx_sL c.1 14 g)) 1 (sx_sL (sx_R c 1) 3 f)) m o D) 0 0 Q := by
  refine pj_J.go (oX1_share G) 3 rfl trivial ?_
  refine pj_J.pos (nI_ge_lit (Nat.le_refl _) (by omega)) ?_
  refine pj_J.go (oX1_share G) 3 rfl trivial ?_
  refine pj_J.pos (hr) ?_
  refine pj_J.go (oX1_share G) 2 rfl trivial ?_
  exact pj_J.drp kk ⟨rfl, rfl, rfl, rfl, rfl, rfl, rfl, rfl, rfl, rfl, trivial⟩
theorem lz_shB0_1 {G : pj_G} {d : Nat} {c : sx_C} {m : sx_M} {o : Nat → Int64} {D : pj_H} {Q : pj_O → pj_H → Prop} (x : Int64) (set rule sum : Int32) (n : Nat) (hn8 : n ≤ 8) (w left : Int64) (f g : Nat → Int64) (hset : vp_in set 4) (hw0 : ¬ w = 0) (hr : ¬ rule = 1) (kk : pj_J G mX1_share (d + 2) 284 [some (.ref 2), some (.long x), none, some (.int set), some (.int rule), some (.ref 25), some (.int sum), some (.int (nI n)), some (.long w), none, some (.long left), none, none, none, none] [] (sx_mk (sx_sR (sx_sM c (sx_sL c.1 14 g)) 1 (sx_sL (sx_R c 1) 3 f)) m o D) 0 0 Q) : pj_J G mX1_share (d + 2) 157 [some (.ref 2), some (.long x), none, some (.int set), some (.int rule), some (.ref 25), some (.int sum), some (.int (nI n)), some (.long w), none, some (.long left), none, some (.int (nI n)), none, none] [] (sx_mk (sx_sR (sx_sM c (sx_sL c.1 14 g)) 1 (sx_sL (sx_R c 1) 3 f)) m o D) 0 0 Q := by
  refine pj_J.go (oX1_share G) 3 rfl trivial ?_
  refine pj_J.pos (nI_ge_lit (Nat.le_refl _) (by omega)) ?_
  refine pj_J.go (oX1_share G) 3 rfl trivial ?_
  refine pj_J.neg (hr) ?_
  exact pj_J.drp kk ⟨rfl, rfl, rfl, rfl, rfl, rfl, rfl, rfl, rfl, trivial⟩
theorem ly_shC_1 {G : pj_G} {d : Nat} {c : sx_C} {m : sx_M} {o : Nat → Int64} {D : pj_H} {Q : pj_O → pj_H → Prop} (x : Int64) (set rule sum : Int32) (n : Nat) (hn8 : n ≤ 8) (w left : Int64) (f g : Nat → Int64) (hset : vp_in set 4) (hw0 : ¬ w = 0) (k : Nat) (hk : k < n) (hl : ¬ left ≤ 0) (k1 : fc_weightOf c.1 set (nI k) sum = 0 → pj_J G mX1_share (d + 2) 233 [some (.ref 2), some (.long x), none, some (.int set), some (.int rule), some (.ref 25), some (.int sum), some (.int (nI n)), some (.long w), none, some (.long left), none, some (.int (nI k + 1)), none, none] [] (sx_mk (sx_sR (sx_sM c (sx_sL c.1 14 g)) 1 (sx_sL (sx_R c 1) 3 f)) m o D) 0 0 Q) (k2 : ¬ fc_weightOf c.1 set (nI k) sum = 0 → pj_J G mX1_share (d + 2) 233 [some (.ref 2), some (.long x), none, some (.int set), some (.int rule), some (.ref 25), some (.int sum), some (.int (nI n)), some (.long w), none, some (.long (left - 1)), none, some (.int (nI k + 1)), none, none] [] (sx_mk (sx_sR (sx_sM c (sx_sL c.1 14 g)) 1 (sx_sL (sx_R c 1) 3 (vp_updL f (nI k).toNatClampNeg (f (nI k).toNatClampNeg + 1)))) m o D) 0 0 Q) : pj_J G mX1_share (d + 2) 233 [some (.ref 2), some (.long x), none, some (.int set), some (.int rule), some (.ref 25), some (.int sum), some (.int (nI n)), some (.long w), none, some (.long left), none, some (.int (nI k)), none, none] [] (sx_mk (sx_sR (sx_sM c (sx_sL c.1 14 g)) 1 (sx_sL (sx_R c 1) 3 f)) m o D) 0 0 Q := by
  refine pj_J.go (oX1_share G) 3 rfl trivial ?_
  refine pj_J.neg (nI_lt_lit hk (by omega)) ?_
  refine pj_J.go (oX1_share G) 4 rfl trivial ?_
  refine pj_J.neg (by rw [pj_lc_le]; exact hl) ?_
  refine pj_J.go (oX1_share G) 4 rfl trivial ?_
  refine pj_J.cal0 kX1_share_253 (c_X1_weightOf (c := (sx_sR (sx_sM c (sx_sL c.1 14 g)) 1 (sx_sL (sx_R c 1) 3 f))) set (nI k) sum hset (vp_in_lit (by omega))) ⟨_, _, _, rfl, rfl⟩ pj_le0 pj_le0 pj_le0 ?_
  refine pj_J.go (oX1_share G) 1 rfl trivial ?_
  refine pj_J.ite (fun hc256 => ?_) (fun hc256 => ?_)
  · skip
    refine pj_J.go (oX1_share G) 3 rfl trivial ?_
    exact pj_J.drp (k1 hc256) ⟨rfl, rfl, rfl, rfl, rfl, rfl, rfl, rfl, rfl, rfl, trivial⟩
  · skip
    refine pj_J.go (oX1_share G) 13 rfl ⟨by exact vp_in_lit (by omega), by exact vp_in_lit (by omega), trivial⟩ ?_
    exact pj_J.drp (k2 hc256) ⟨rfl, rfl, rfl, rfl, rfl, rfl, rfl, rfl, rfl, rfl, trivial⟩
theorem lz_shC_1 {G : pj_G} {d : Nat} {c : sx_C} {m : sx_M} {o : Nat → Int64} {D : pj_H} {Q : pj_O → pj_H → Prop} (x : Int64) (set rule sum : Int32) (n : Nat) (hn8 : n ≤ 8) (w left : Int64) (f g : Nat → Int64) (hset : vp_in set 4) (hw0 : ¬ w = 0) (k : Nat) (hk : k ≤ n) (hx : k = n ∨ left ≤ 0) (q : Q (.inl none) (sx_mk (sx_sR (sx_sM c (sx_sL c.1 14 g)) 1 (sx_sL (sx_R c 1) 3 f)) m o D)) : pj_J G mX1_share (d + 2) 233 [some (.ref 2), some (.long x), none, some (.int set), some (.int rule), some (.ref 25), some (.int sum), some (.int (nI n)), some (.long w), none, some (.long left), none, some (.int (nI k)), none, none] [] (sx_mk (sx_sR (sx_sM c (sx_sL c.1 14 g)) 1 (sx_sL (sx_R c 1) 3 f)) m o D) 0 0 Q := by
  refine pj_J.go (oX1_share G) 3 rfl trivial ?_
  refine pj_J.ite (fun hc237 => ?_) (fun hc237 => ?_)
  · skip
    exact pj_vret dX1_share_283 rfl q
  · skip
    refine pj_J.go (oX1_share G) 4 rfl trivial ?_
    refine pj_J.ite (fun hc244 => ?_) (fun hc244 => ?_)
    · simp only [pj_lc_le] at hc244
      exact pj_vret dX1_share_283 rfl q
    · simp only [pj_lc_le] at hc244
      exfalso
      rcases hx with hx | hx
      · subst hx; exact hc237 (nI_ge_lit (Nat.le_refl _) (by omega))
      · exact hc244 hx
theorem lz_shD_1 {G : pj_G} {d : Nat} {c : sx_C} {m : sx_M} {o : Nat → Int64} {D : pj_H} {Q : pj_O → pj_H → Prop} (x : Int64) (set rule sum : Int32) (n : Nat) (hn8 : n ≤ 8) (w left : Int64) (f g : Nat → Int64) (hset : vp_in set 4) (hw0 : ¬ w = 0) (hl : left ≤ 0) (q : Q (.inl none) (sx_mk (sx_sR (sx_sM c (sx_sL c.1 14 g)) 1 (sx_sL (sx_R c 1) 3 f)) m o D)) : pj_J G mX1_share (d + 2) 284 [some (.ref 2), some (.long x), none, some (.int set), some (.int rule), some (.ref 25), some (.int sum), some (.int (nI n)), some (.long w), none, some (.long left), none, none, none, none] [] (sx_mk (sx_sR (sx_sM c (sx_sL c.1 14 g)) 1 (sx_sL (sx_R c 1) 3 f)) m o D) 0 0 Q := by
  refine pj_J.go (oX1_share G) 4 rfl trivial ?_
  refine pj_J.pos (by rw [pj_lc_le]; exact hl) ?_
  exact pj_vret dX1_share_360 rfl q
theorem lx_shD_1 {G : pj_G} {d : Nat} {c : sx_C} {m : sx_M} {o : Nat → Int64} {D : pj_H} {Q : pj_O → pj_H → Prop} (x : Int64) (set rule sum : Int32) (n : Nat) (hn8 : n ≤ 8) (w left : Int64) (f g : Nat → Int64) (hset : vp_in set 4) (hw0 : ¬ w = 0) (hl : ¬ left ≤ 0) (kk : pj_J G mX1_share (d + 2) 297 [some (.ref 2), some (.long x), none, some (.int set), some (.int rule), some (.ref 25), some (.int sum), some (.int (nI n)), some (.long w), none, some (.long left), none, some (.int 0), some (.int (nI 1)), none] [] (sx_mk (sx_sR (sx_sM c (sx_sL c.1 14 g)) 1 (sx_sL (sx_R c 1) 3 f)) m o D) 0 0 Q) : pj_J G mX1_share (d + 2) 284 [some (.ref 2), some (.long x), none, some (.int set), some (.int rule), some (.ref 25), some (.int sum), some (.int (nI n)), some (.long w), none, some (.long left), none, none, none, none] [] (sx_mk (sx_sR (sx_sM c (sx_sL c.1 14 g)) 1 (sx_sL (sx_R c 1) 3 f)) m o D) 0 0 Q := by
  refine pj_J.go (oX1_share G) 4 rfl trivial ?_
  refine pj_J.neg (by rw [pj_lc_le]; exact hl) ?_
  refine pj_J.go (oX1_share G) 4 rfl trivial ?_
  exact pj_J.drp kk ⟨rfl, rfl, rfl, rfl, rfl, rfl, rfl, rfl, rfl, rfl, rfl, trivial⟩
theorem ly_shM_1 {G : pj_G} {d : Nat} {c : sx_C} {m : sx_M} {o : Nat → Int64} {D : pj_H} {Q : pj_O → pj_H → Prop} (x : Int64) (set rule sum : Int32) (n : Nat) (hn8 : n ≤ 8) (w left : Int64) (f g : Nat → Int64) (hset : vp_in set 4) (hw0 : ¬ w = 0) (b : Int32) (hb : vp_in b 8) (k : Nat) (hk : k + 1 < n) (kk : pj_J G mX1_share (d + 2) 297 [some (.ref 2), some (.long x), none, some (.int set), some (.int rule), some (.ref 25), some (.int sum), some (.int (nI n)), some (.long w), none, some (.long left), none, some (.int (fc_shM g k b)), some (.int (nI (k + 1) + 1)), none] [] (sx_mk (sx_sR (sx_sM c (sx_sL c.1 14 g)) 1 (sx_sL (sx_R c 1) 3 f)) m o D) 0 0 Q) : pj_J G mX1_share (d + 2) 297 [some (.ref 2), some (.long x), none, some (.int set), some (.int rule), some (.ref 25), some (.int sum), some (.int (nI n)), some (.long w), none, some (.long left), none, some (.int b), some (.int (nI (k + 1))), none] [] (sx_mk (sx_sR (sx_sM c (sx_sL c.1 14 g)) 1 (sx_sL (sx_R c 1) 3 f)) m o D) 0 0 Q := by
  refine pj_J.go (oX1_share G) 3 rfl trivial ?_
  refine pj_J.neg (nI_lt_lit hk (by omega)) ?_
  refine pj_J.go (oX1_share G) 10 rfl ⟨by exact vp_in_lit (by omega), by exact hb, trivial⟩ ?_
  refine pj_J.ite (fun hc319 => ?_) (fun hc319 => ?_)
  · simp only [pj_lc_le] at hc319
    refine pj_J.go (oX1_share G) 2 rfl trivial ?_
    unfold fc_shM at kk
    rw [if_pos (show (g (nI (k + 1)).toNatClampNeg) ≤ (g b.toNatClampNeg) from hc319)] at kk
    exact pj_J.drp kk ⟨rfl, rfl, rfl, rfl, rfl, rfl, rfl, rfl, rfl, rfl, rfl, trivial⟩
  · simp only [pj_lc_le] at hc319
    refine pj_J.go (oX1_share G) 4 rfl trivial ?_
    unfold fc_shM at kk
    rw [if_neg (show ¬ ((g (nI (k + 1)).toNatClampNeg) ≤ (g b.toNatClampNeg)) from hc319)] at kk
    exact pj_J.drp kk ⟨rfl, rfl, rfl, rfl, rfl, rfl, rfl, rfl, rfl, rfl, rfl, trivial⟩
theorem lz_shM_1 {G : pj_G} {d : Nat} {c : sx_C} {m : sx_M} {o : Nat → Int64} {D : pj_H} {Q : pj_O → pj_H → Prop} (x : Int64) (set rule sum : Int32) (n : Nat) (hn8 : n ≤ 8) (w left : Int64) (f g : Nat → Int64) (hset : vp_in set 4) (hw0 : ¬ w = 0) (b : Int32) (hb : vp_in b 8) (k : Nat) (hk : n ≤ k) (hk9 : k ≤ 9) (kk : pj_J G mX1_share (d + 2) 284 [some (.ref 2), some (.long x), none, some (.int set), some (.int rule), some (.ref 25), some (.int sum), some (.int (nI n)), some (.long w), none, some (.long (left - 1)), none, none, none, none] [] (sx_mk (sx_sR (sx_sM c (sx_sL c.1 14 (vp_updL g b.toNatClampNeg (-1)))) 1 (sx_sL (sx_R c 1) 3 (vp_updL f b.toNatClampNeg (f b.toNatClampNeg + 1)))) m o D) 0 0 Q) : pj_J G mX1_share (d + 2) 297 [some (.ref 2), some (.long x), none, some (.int set), some (.int rule), some (.ref 25), some (.int sum), some (.int (nI n)), some (.long w), none, some (.long left), none, some (.int b), some (.int (nI k)), none] [] (sx_mk (sx_sR (sx_sM c (sx_sL c.1 14 g)) 1 (sx_sL (sx_R c 1) 3 f)) m o D) 0 0 Q := by
  refine pj_J.go (oX1_share G) 3 rfl trivial ?_
  refine pj_J.pos (nI_ge_lit hk (by omega)) ?_
  refine pj_J.go (oX1_share G) 17 rfl ⟨by exact hb, by exact hb, by exact hb, trivial⟩ ?_
  exact pj_J.drp kk ⟨rfl, rfl, rfl, rfl, rfl, rfl, rfl, rfl, rfl, trivial⟩
theorem lp_shC_1 {G : pj_G} {d : Nat} {c : sx_C} {m : sx_M} {o : Nat → Int64} {D : pj_H} {Q : pj_O → pj_H → Prop} (x : Int64) (set rule sum : Int32) (n : Nat) (hn8 : n ≤ 8) (w : Int64) (g : Nat → Int64) (hset : vp_in set 4) (hw0 : ¬ w = 0) : ∀ (e k : Nat) (left : Int64) (f : Nat → Int64), k + e = n → Q (.inl none) (sx_mk (sx_sR (sx_sM c (sx_sL c.1 14 g)) 1 (sx_sL (sx_R c 1) 3 ((fc_shC c.1 set sum e k (left, f)).2))) m o D) → pj_J G mX1_share (d + 2) 233 [some (.ref 2), some (.long x), none, some (.int set), some (.int rule), some (.ref 25), some (.int sum), some (.int (nI n)), some (.long w), none, some (.long left), none, some (.int (nI k)), none, none] [] (sx_mk (sx_sR (sx_sM c (sx_sL c.1 14 g)) 1 (sx_sL (sx_R c 1) 3 f)) m o D) 0 0 Q := by
  intro e
  induction e with
  | zero =>
    intro k left f hk q
    exact lz_shC_1 x set rule sum n hn8 w left f g hset hw0 k (by omega) (Or.inl (by omega)) q
  | succ e ih =>
    intro k left f hk q
    unfold fc_shC at q
    by_cases hl : left ≤ 0
    · rw [if_pos hl] at q
      exact lz_shC_1 x set rule sum n hn8 w left f g hset hw0 k (by omega) (Or.inr hl) q
    · rw [if_neg hl] at q
      refine ly_shC_1 x set rule sum n hn8 w left f g hset hw0 k (by omega) hl (fun h => ?_) (fun h => ?_)
      · rw [if_pos h] at q
        rw [nI_add1]
        exact ih (k + 1) left f (by omega) q
      · rw [if_neg h] at q
        rw [nI_add1]
        exact ih (k + 1) _ _ (by omega) q
theorem lp_shD_1 {G : pj_G} {d : Nat} {c : sx_C} {m : sx_M} {o : Nat → Int64} {D : pj_H} {Q : pj_O → pj_H → Prop} (x : Int64) (set rule sum : Int32) (n : Nat) (hn8 : n ≤ 8) (hn1 : 1 ≤ n) (w : Int64) (hset : vp_in set 4) (hw0 : ¬ w = 0) : ∀ (e : Nat) (left : Int64) (f g : Nat → Int64), (fc_shD n e (left, f, g)).1 ≤ 0 → Q (.inl none) (sx_mk (sx_sR (sx_sM c (sx_sL c.1 14 ((fc_shD n e (left, f, g)).2.2))) 1 (sx_sL (sx_R c 1) 3 ((fc_shD n e (left, f, g)).2.1))) m o D) → pj_J G mX1_share (d + 2) 284 [some (.ref 2), some (.long x), none, some (.int set), some (.int rule), some (.ref 25), some (.int sum), some (.int (nI n)), some (.long w), none, some (.long left), none, none, none, none] [] (sx_mk (sx_sR (sx_sM c (sx_sL c.1 14 g)) 1 (sx_sL (sx_R c 1) 3 f)) m o D) 0 0 Q := by
  intro e
  induction e with
  | zero =>
    intro left f g hl q
    exact lz_shD_1 x set rule sum n hn8 w left f g hset hw0 hl q
  | succ e ih =>
    intro left f g hl q
    unfold fc_shD at q hl
    by_cases h : left ≤ 0
    · rw [if_pos h] at q hl
      exact lz_shD_1 x set rule sum n hn8 w left f g hset hw0 h q
    · rw [if_neg h] at q hl
      refine lx_shD_1 x set rule sum n hn8 w left f g hset hw0 h ?_
      refine pj_for (fun k b => pj_J G mX1_share (d + 2) 297 [some (.ref 2), some (.long x), none, some (.int set), some (.int rule), some (.ref 25), some (.int sum), some (.int (nI n)), some (.long w), none, some (.long left), none, some (.int b), some (.int (nI (k + 1))), none] [] (sx_mk (sx_sR (sx_sM c (sx_sL c.1 14 g)) 1 (sx_sL (sx_R c 1) 3 f)) m o D) 0 0 Q) (fc_shM g) (fun _ b => vp_in b 8) (n - 1) (fun k b hk hi => ⟨fc_shM_vp hi (by omega), fun kk => ly_shM_1 x set rule sum n hn8 w left f g hset hw0 b hi k (by omega) (by rw [nI_add1]; exact kk)⟩) (n - 1) 0 0 (by simp) (vp_in_lit (k := 0) (by decide)) (fun hi => ?_)
      refine lz_shM_1 x set rule sum n hn8 w left f g hset hw0 _ hi (n - 1 + 1) (by omega) (by omega) ?_
      exact ih _ _ _ hl q
theorem ly_shZ_2 {G : pj_G} {d : Nat} {c : sx_C} {m : sx_M} {o : Nat → Int64} {D : pj_H} {Q : pj_O → pj_H → Prop} (x : Int64) (set rule sum : Int32) (n : Nat) (hn8 : n ≤ 8) (w left : Int64) (f g : Nat → Int64) (hset : vp_in set 4) (hw0 : ¬ w = 0) (k : Nat) (hk : k < 8) (kk : pj_J G mX1_share (d + 2) 43 [some (.ref 2), some (.long x), none, some (.int set), some (.int rule), some (.ref 36), some (.int sum), some (.int (nI n)), some (.long w), none, some (.int (nI k + 1)), none, none, none, none] [] (sx_mk (sx_sR (sx_sM c (sx_sL c.1 14 g)) 2 (sx_sL (sx_R c 2) 3 (fc_shZ k f))) m o D) 0 0 Q) : pj_J G mX1_share (d + 2) 43 [some (.ref 2), some (.long x), none, some (.int set), some (.int rule), some (.ref 36), some (.int sum), some (.int (nI n)), some (.long w), none, some (.int (nI k)), none, none, none, none] [] (sx_mk (sx_sR (sx_sM c (sx_sL c.1 14 g)) 2 (sx_sL (sx_R c 2) 3 f)) m o D) 0 0 Q := by
  refine pj_J.go (oX1_share G) 3 rfl trivial ?_
  refine pj_J.neg (nI_lt_lit hk (by decide)) ?_
  refine pj_J.go (oX1_share G) 6 rfl ⟨by exact vp_in_lit (by omega), trivial⟩ ?_
  exact pj_J.drp kk ⟨rfl, rfl, rfl, rfl, rfl, rfl, rfl, rfl, rfl, trivial⟩
theorem ly_shA_2 {G : pj_G} {d : Nat} {c : sx_C} {m : sx_M} {o : Nat → Int64} {D : pj_H} {Q : pj_O → pj_H → Prop} (x : Int64) (set rule sum : Int32) (n : Nat) (hn8 : n ≤ 8) (w left : Int64) (f g : Nat → Int64) (hset : vp_in set 4) (hw0 : ¬ w = 0) (fr : Int32) (hfr : vp_in fr 8) (k : Nat) (hk : k < n) (kk : pj_J G mX1_share (d + 2) 90 [some (.ref 2), some (.long x), none, some (.int set), some (.int rule), some (.ref 36), some (.int sum), some (.int (nI n)), some (.long w), none, some (.long ((fc_shA c.1 x set sum w fr k (left, f)).1)), none, some (.int fr), some (.int (nI k + 1)), none] [] (sx_mk (sx_sR (sx_sM c (sx_sL c.1 14 g)) 2 (sx_sL (sx_R c 2) 3 ((fc_shA c.1 x set sum w fr k (left, f)).2))) m o D) 0 0 Q) : pj_J G mX1_share (d + 2) 90 [some (.ref 2), some (.long x), none, some (.int set), some (.int rule), some (.ref 36), some (.int sum), some (.int (nI n)), some (.long w), none, some (.long left), none, some (.int fr), some (.int (nI k)), none] [] (sx_mk (sx_sR (sx_sM c (sx_sL c.1 14 g)) 2 (sx_sL (sx_R c 2) 3 f)) m o D) 0 0 Q := by
  refine pj_J.go (oX1_share G) 3 rfl trivial ?_
  refine pj_J.neg (nI_lt_lit hk (by omega)) ?_
  refine pj_J.go (oX1_share G) 3 rfl trivial ?_
  refine pj_J.ite (fun hc101 => ?_) (fun hc101 => ?_)
  · skip
    refine pj_J.go (oX1_share G) 3 rfl trivial ?_
    unfold fc_shA at kk
    rw [if_pos (show (nI k) = fr from hc101)] at kk
    exact pj_J.drp kk ⟨rfl, rfl, rfl, rfl, rfl, rfl, rfl, rfl, rfl, rfl, rfl, trivial⟩
  · skip
    refine pj_J.go (oX1_share G) 7 rfl trivial ?_
    refine pj_J.cal0 kX1_share_118 (c_X1_weightOf (c := (sx_sR (sx_sM c (sx_sL c.1 14 g)) 2 (sx_sL (sx_R c 2) 3 f))) set (nI k) sum hset (vp_in_lit (by omega))) ⟨_, _, _, rfl, rfl⟩ pj_le0 pj_le0 pj_le0 ?_
    refine pj_J.go (oX1_share G) 4 rfl trivial ?_
    refine pj_J.cal0 kX1_share_126 (c_X1_whole (x * (fc_weightOf c.1 set (nI k) sum).toInt64) w (0 : Int32) hw0) trivial pj_le0 pj_le0 pj_le0 ?_
    refine pj_J.go (oX1_share G) 9 rfl ⟨by exact vp_in_lit (by omega), by exact vp_in_lit (by omega), trivial⟩ ?_
    unfold fc_shA at kk
    rw [if_neg (show ¬ ((nI k) = fr) from hc101)] at kk
    simp only [fc_upL]
    exact pj_J.drp kk ⟨rfl, rfl, rfl, rfl, rfl, rfl, rfl, rfl, rfl, rfl, rfl, trivial⟩
theorem lz_shA_2 {G : pj_G} {d : Nat} {c : sx_C} {m : sx_M} {o : Nat → Int64} {D : pj_H} {Q : pj_O → pj_H → Prop} (x : Int64) (set rule sum : Int32) (n : Nat) (hn8 : n ≤ 8) (w left : Int64) (f g : Nat → Int64) (hset : vp_in set 4) (hw0 : ¬ w = 0) (fr : Int32) (hfr : vp_in fr 8) (q : Q (.inl none) (sx_mk (sx_sR (sx_sM c (sx_sL c.1 14 g)) 2 (sx_sL (sx_R c 2) 3 (vp_updL f fr.toNatClampNeg left))) m o D)) : pj_J G mX1_share (d + 2) 90 [some (.ref 2), some (.long x), none, some (.int set), some (.int rule), some (.ref 36), some (.int sum), some (.int (nI n)), some (.long w), none, some (.long left), none, some (.int fr), some (.int (nI n)), none] [] (sx_mk (sx_sR (sx_sM c (sx_sL c.1 14 g)) 2 (sx_sL (sx_R c 2) 3 f)) m o D) 0 0 Q := by
  refine pj_J.go (oX1_share G) 3 rfl trivial ?_
  refine pj_J.pos (nI_ge_lit (Nat.le_refl _) (by omega)) ?_
  refine pj_J.go (oX1_share G) 4 rfl ⟨by exact hfr, trivial⟩ ?_
  exact pj_vret dX1_share_153 rfl q
theorem ly_shB_2 {G : pj_G} {d : Nat} {c : sx_C} {m : sx_M} {o : Nat → Int64} {D : pj_H} {Q : pj_O → pj_H → Prop} (x : Int64) (set rule sum : Int32) (n : Nat) (hn8 : n ≤ 8) (w left : Int64) (f g : Nat → Int64) (hset : vp_in set 4) (hw0 : ¬ w = 0) (k : Nat) (hk : k < n) (kk : pj_J G mX1_share (d + 2) 157 [some (.ref 2), some (.long x), none, some (.int set), some (.int rule), some (.ref 36), some (.int sum), some (.int (nI n)), some (.long w), none, some (.long ((fc_shB c.1 x set sum w k (left, f, g)).1)), none, some (.int (nI k + 1)), none, none] [] (sx_mk (sx_sR (sx_sM c (sx_sL c.1 14 ((fc_shB c.1 x set sum w k (left, f, g)).2.2))) 2 (sx_sL (sx_R c 2) 3 ((fc_shB c.1 x set sum w k (left, f, g)).2.1))) m o D) 0 0 Q) : pj_J G mX1_share (d + 2) 157 [some (.ref 2), some (.long x), none, some (.int set), some (.int rule), some (.ref 36), some (.int sum), some (.int (nI n)), some (.long w), none, some (.long left), none, some (.int (nI k)), none, none] [] (sx_mk (sx_sR (sx_sM c (sx_sL c.1 14 g)) 2 (sx_sL (sx_R c 2) 3 f)) m o D) 0 0 Q := by
  refine pj_J.go (oX1_share G) 3 rfl trivial ?_
  refine pj_J.neg (nI_lt_lit hk (by omega)) ?_
  refine pj_J.go (oX1_share G) 5 rfl trivial ?_
  refine pj_J.cal0 kX1_share_171 (c_X1_weightOf (c := (sx_sR (sx_sM c (sx_sL c.1 14 g)) 2 (sx_sL (sx_R c 2) 3 f))) set (nI k) sum hset (vp_in_lit (by omega))) ⟨_, _, _, rfl, rfl⟩ pj_le0 pj_le0 pj_le0 ?_
  refine pj_J.go (oX1_share G) 7 rfl trivial ?_
  refine pj_J.cal0 kX1_share_186 (c_X1_floorOf (x * (fc_weightOf c.1 set (nI k) sum).toInt64) w hw0) trivial pj_le0 pj_le0 pj_le0 ?_
  refine pj_J.go (oX1_share G) 20 rfl ⟨by exact vp_in_lit (by omega), by exact vp_in_lit (by omega), by exact vp_in_lit (by omega), by exact vp_in_lit (by omega), trivial⟩ ?_
  unfold fc_shB at kk
  simp only [fc_upL]
  exact pj_J.drp kk ⟨rfl, rfl, rfl, rfl, rfl, rfl, rfl, rfl, rfl, rfl, trivial⟩
theorem lz_shB1_2 {G : pj_G} {d : Nat} {c : sx_C} {m : sx_M} {o : Nat → Int64} {D : pj_H} {Q : pj_O → pj_H → Prop} (x : Int64) (set rule sum : Int32) (n : Nat) (hn8 : n ≤ 8) (w left : Int64) (f g : Nat → Int64) (hset : vp_in set 4) (hw0 : ¬ w = 0) (hr : rule = 1) (kk : pj_J G mX1_share (d + 2) 233 [some (.ref 2), some (.long x), none, some (.int set), some (.int rule), some (.ref 36), some (.int sum), some (.int (nI n)), some (.long w), none, some (.long left), none, some (.int (nI 0)), none, none] [] (sx_mk (sx_sR (sx_sM c (sx_sL c.1 14 g)) 2 (sx_sL (sx_R c 2) 3 f)) m o D) 0 0 Q) : pj_J G mX1_share (d + 2) 157 [some (.ref 2), some (.long x), none, some (.int set), some (.int rule), some (.ref 36), some (.int sum), some (.int (nI n)), some (.long w), none, some (.long left), none, some (.int (nI n)), none, none] [] (sx_mk (sx_sR (sx_sM c (sx_sL c.1 14 g)) 2 (sx_sL (sx_R c 2) 3 f)) m o D) 0 0 Q := by
  refine pj_J.go (oX1_share G) 3 rfl trivial ?_
  refine pj_J.pos (nI_ge_lit (Nat.le_refl _) (by omega)) ?_
  refine pj_J.go (oX1_share G) 3 rfl trivial ?_
  refine pj_J.pos (hr) ?_
  refine pj_J.go (oX1_share G) 2 rfl trivial ?_
  exact pj_J.drp kk ⟨rfl, rfl, rfl, rfl, rfl, rfl, rfl, rfl, rfl, rfl, trivial⟩
theorem lz_shB0_2 {G : pj_G} {d : Nat} {c : sx_C} {m : sx_M} {o : Nat → Int64} {D : pj_H} {Q : pj_O → pj_H → Prop} (x : Int64) (set rule sum : Int32) (n : Nat) (hn8 : n ≤ 8) (w left : Int64) (f g : Nat → Int64) (hset : vp_in set 4) (hw0 : ¬ w = 0) (hr : ¬ rule = 1) (kk : pj_J G mX1_share (d + 2) 284 [some (.ref 2), some (.long x), none, some (.int set), some (.int rule), some (.ref 36), some (.int sum), some (.int (nI n)), some (.long w), none, some (.long left), none, none, none, none] [] (sx_mk (sx_sR (sx_sM c (sx_sL c.1 14 g)) 2 (sx_sL (sx_R c 2) 3 f)) m o D) 0 0 Q) : pj_J G mX1_share (d + 2) 157 [some (.ref 2), some (.long x), none, some (.int set), some (.int rule), some (.ref 36), some (.int sum), some (.int (nI n)), some (.long w), none, some (.long left), none, some (.int (nI n)), none, none] [] (sx_mk (sx_sR (sx_sM c (sx_sL c.1 14 g)) 2 (sx_sL (sx_R c 2) 3 f)) m o D) 0 0 Q := by
  refine pj_J.go (oX1_share G) 3 rfl trivial ?_
  refine pj_J.pos (nI_ge_lit (Nat.le_refl _) (by omega)) ?_
  refine pj_J.go (oX1_share G) 3 rfl trivial ?_
  refine pj_J.neg (hr) ?_
  exact pj_J.drp kk ⟨rfl, rfl, rfl, rfl, rfl, rfl, rfl, rfl, rfl, trivial⟩
theorem ly_shC_2 {G : pj_G} {d : Nat} {c : sx_C} {m : sx_M} {o : Nat → Int64} {D : pj_H} {Q : pj_O → pj_H → Prop} (x : Int64) (set rule sum : Int32) (n : Nat) (hn8 : n ≤ 8) (w left : Int64) (f g : Nat → Int64) (hset : vp_in set 4) (hw0 : ¬ w = 0) (k : Nat) (hk : k < n) (hl : ¬ left ≤ 0) (k1 : fc_weightOf c.1 set (nI k) sum = 0 → pj_J G mX1_share (d + 2) 233 [some (.ref 2), some (.long x), none, some (.int set), some (.int rule), some (.ref 36), some (.int sum), some (.int (nI n)), some (.long w), none, some (.long left), none, some (.int (nI k + 1)), none, none] [] (sx_mk (sx_sR (sx_sM c (sx_sL c.1 14 g)) 2 (sx_sL (sx_R c 2) 3 f)) m o D) 0 0 Q) (k2 : ¬ fc_weightOf c.1 set (nI k) sum = 0 → pj_J G mX1_share (d + 2) 233 [some (.ref 2), some (.long x), none, some (.int set), some (.int rule), some (.ref 36), some (.int sum), some (.int (nI n)), some (.long w), none, some (.long (left - 1)), none, some (.int (nI k + 1)), none, none] [] (sx_mk (sx_sR (sx_sM c (sx_sL c.1 14 g)) 2 (sx_sL (sx_R c 2) 3 (vp_updL f (nI k).toNatClampNeg (f (nI k).toNatClampNeg + 1)))) m o D) 0 0 Q) : pj_J G mX1_share (d + 2) 233 [some (.ref 2), some (.long x), none, some (.int set), some (.int rule), some (.ref 36), some (.int sum), some (.int (nI n)), some (.long w), none, some (.long left), none, some (.int (nI k)), none, none] [] (sx_mk (sx_sR (sx_sM c (sx_sL c.1 14 g)) 2 (sx_sL (sx_R c 2) 3 f)) m o D) 0 0 Q := by
  refine pj_J.go (oX1_share G) 3 rfl trivial ?_
  refine pj_J.neg (nI_lt_lit hk (by omega)) ?_
  refine pj_J.go (oX1_share G) 4 rfl trivial ?_
  refine pj_J.neg (by rw [pj_lc_le]; exact hl) ?_
  refine pj_J.go (oX1_share G) 4 rfl trivial ?_
  refine pj_J.cal0 kX1_share_253 (c_X1_weightOf (c := (sx_sR (sx_sM c (sx_sL c.1 14 g)) 2 (sx_sL (sx_R c 2) 3 f))) set (nI k) sum hset (vp_in_lit (by omega))) ⟨_, _, _, rfl, rfl⟩ pj_le0 pj_le0 pj_le0 ?_
  refine pj_J.go (oX1_share G) 1 rfl trivial ?_
  refine pj_J.ite (fun hc256 => ?_) (fun hc256 => ?_)
  · skip
    refine pj_J.go (oX1_share G) 3 rfl trivial ?_
    exact pj_J.drp (k1 hc256) ⟨rfl, rfl, rfl, rfl, rfl, rfl, rfl, rfl, rfl, rfl, trivial⟩
  · skip
    refine pj_J.go (oX1_share G) 13 rfl ⟨by exact vp_in_lit (by omega), by exact vp_in_lit (by omega), trivial⟩ ?_
    exact pj_J.drp (k2 hc256) ⟨rfl, rfl, rfl, rfl, rfl, rfl, rfl, rfl, rfl, rfl, trivial⟩
theorem lz_shC_2 {G : pj_G} {d : Nat} {c : sx_C} {m : sx_M} {o : Nat → Int64} {D : pj_H} {Q : pj_O → pj_H → Prop} (x : Int64) (set rule sum : Int32) (n : Nat) (hn8 : n ≤ 8) (w left : Int64) (f g : Nat → Int64) (hset : vp_in set 4) (hw0 : ¬ w = 0) (k : Nat) (hk : k ≤ n) (hx : k = n ∨ left ≤ 0) (q : Q (.inl none) (sx_mk (sx_sR (sx_sM c (sx_sL c.1 14 g)) 2 (sx_sL (sx_R c 2) 3 f)) m o D)) : pj_J G mX1_share (d + 2) 233 [some (.ref 2), some (.long x), none, some (.int set), some (.int rule), some (.ref 36), some (.int sum), some (.int (nI n)), some (.long w), none, some (.long left), none, some (.int (nI k)), none, none] [] (sx_mk (sx_sR (sx_sM c (sx_sL c.1 14 g)) 2 (sx_sL (sx_R c 2) 3 f)) m o D) 0 0 Q := by
  refine pj_J.go (oX1_share G) 3 rfl trivial ?_
  refine pj_J.ite (fun hc237 => ?_) (fun hc237 => ?_)
  · skip
    exact pj_vret dX1_share_283 rfl q
  · skip
    refine pj_J.go (oX1_share G) 4 rfl trivial ?_
    refine pj_J.ite (fun hc244 => ?_) (fun hc244 => ?_)
    · simp only [pj_lc_le] at hc244
      exact pj_vret dX1_share_283 rfl q
    · simp only [pj_lc_le] at hc244
      exfalso
      rcases hx with hx | hx
      · subst hx; exact hc237 (nI_ge_lit (Nat.le_refl _) (by omega))
      · exact hc244 hx
theorem lz_shD_2 {G : pj_G} {d : Nat} {c : sx_C} {m : sx_M} {o : Nat → Int64} {D : pj_H} {Q : pj_O → pj_H → Prop} (x : Int64) (set rule sum : Int32) (n : Nat) (hn8 : n ≤ 8) (w left : Int64) (f g : Nat → Int64) (hset : vp_in set 4) (hw0 : ¬ w = 0) (hl : left ≤ 0) (q : Q (.inl none) (sx_mk (sx_sR (sx_sM c (sx_sL c.1 14 g)) 2 (sx_sL (sx_R c 2) 3 f)) m o D)) : pj_J G mX1_share (d + 2) 284 [some (.ref 2), some (.long x), none, some (.int set), some (.int rule), some (.ref 36), some (.int sum), some (.int (nI n)), some (.long w), none, some (.long left), none, none, none, none] [] (sx_mk (sx_sR (sx_sM c (sx_sL c.1 14 g)) 2 (sx_sL (sx_R c 2) 3 f)) m o D) 0 0 Q := by
  refine pj_J.go (oX1_share G) 4 rfl trivial ?_
  refine pj_J.pos (by rw [pj_lc_le]; exact hl) ?_
  exact pj_vret dX1_share_360 rfl q
theorem lx_shD_2 {G : pj_G} {d : Nat} {c : sx_C} {m : sx_M} {o : Nat → Int64} {D : pj_H} {Q : pj_O → pj_H → Prop} (x : Int64) (set rule sum : Int32) (n : Nat) (hn8 : n ≤ 8) (w left : Int64) (f g : Nat → Int64) (hset : vp_in set 4) (hw0 : ¬ w = 0) (hl : ¬ left ≤ 0) (kk : pj_J G mX1_share (d + 2) 297 [some (.ref 2), some (.long x), none, some (.int set), some (.int rule), some (.ref 36), some (.int sum), some (.int (nI n)), some (.long w), none, some (.long left), none, some (.int 0), some (.int (nI 1)), none] [] (sx_mk (sx_sR (sx_sM c (sx_sL c.1 14 g)) 2 (sx_sL (sx_R c 2) 3 f)) m o D) 0 0 Q) : pj_J G mX1_share (d + 2) 284 [some (.ref 2), some (.long x), none, some (.int set), some (.int rule), some (.ref 36), some (.int sum), some (.int (nI n)), some (.long w), none, some (.long left), none, none, none, none] [] (sx_mk (sx_sR (sx_sM c (sx_sL c.1 14 g)) 2 (sx_sL (sx_R c 2) 3 f)) m o D) 0 0 Q := by
  refine pj_J.go (oX1_share G) 4 rfl trivial ?_
  refine pj_J.neg (by rw [pj_lc_le]; exact hl) ?_
  refine pj_J.go (oX1_share G) 4 rfl trivial ?_
  exact pj_J.drp kk ⟨rfl, rfl, rfl, rfl, rfl, rfl, rfl, rfl, rfl, rfl, rfl, trivial⟩
theorem ly_shM_2 {G : pj_G} {d : Nat} {c : sx_C} {m : sx_M} {o : Nat → Int64} {D : pj_H} {Q : pj_O → pj_H → Prop} (x : Int64) (set rule sum : Int32) (n : Nat) (hn8 : n ≤ 8) (w left : Int64) (f g : Nat → Int64) (hset : vp_in set 4) (hw0 : ¬ w = 0) (b : Int32) (hb : vp_in b 8) (k : Nat) (hk : k + 1 < n) (kk : pj_J G mX1_share (d + 2) 297 [some (.ref 2), some (.long x), none, some (.int set), some (.int rule), some (.ref 36), some (.int sum), some (.int (nI n)), some (.long w), none, some (.long left), none, some (.int (fc_shM g k b)), some (.int (nI (k + 1) + 1)), none] [] (sx_mk (sx_sR (sx_sM c (sx_sL c.1 14 g)) 2 (sx_sL (sx_R c 2) 3 f)) m o D) 0 0 Q) : pj_J G mX1_share (d + 2) 297 [some (.ref 2), some (.long x), none, some (.int set), some (.int rule), some (.ref 36), some (.int sum), some (.int (nI n)), some (.long w), none, some (.long left), none, some (.int b), some (.int (nI (k + 1))), none] [] (sx_mk (sx_sR (sx_sM c (sx_sL c.1 14 g)) 2 (sx_sL (sx_R c 2) 3 f)) m o D) 0 0 Q := by
  refine pj_J.go (oX1_share G) 3 rfl trivial ?_
  refine pj_J.neg (nI_lt_lit hk (by omega)) ?_
  refine pj_J.go (oX1_share G) 10 rfl ⟨by exact vp_in_lit (by omega), by exact hb, trivial⟩ ?_
  refine pj_J.ite (fun hc319 => ?_) (fun hc319 => ?_)
  · simp only [pj_lc_le] at hc319
    refine pj_J.go (oX1_share G) 2 rfl trivial ?_
    unfold fc_shM at kk
    rw [if_pos (show (g (nI (k + 1)).toNatClampNeg) ≤ (g b.toNatClampNeg) from hc319)] at kk
    exact pj_J.drp kk ⟨rfl, rfl, rfl, rfl, rfl, rfl, rfl, rfl, rfl, rfl, rfl, trivial⟩
  · simp only [pj_lc_le] at hc319
    refine pj_J.go (oX1_share G) 4 rfl trivial ?_
    unfold fc_shM at kk
    rw [if_neg (show ¬ ((g (nI (k + 1)).toNatClampNeg) ≤ (g b.toNatClampNeg)) from hc319)] at kk
    exact pj_J.drp kk ⟨rfl, rfl, rfl, rfl, rfl, rfl, rfl, rfl, rfl, rfl, rfl, trivial⟩
theorem lz_shM_2 {G : pj_G} {d : Nat} {c : sx_C} {m : sx_M} {o : Nat → Int64} {D : pj_H} {Q : pj_O → pj_H → Prop} (x : Int64) (set rule sum : Int32) (n : Nat) (hn8 : n ≤ 8) (w left : Int64) (f g : Nat → Int64) (hset : vp_in set 4) (hw0 : ¬ w = 0) (b : Int32) (hb : vp_in b 8) (k : Nat) (hk : n ≤ k) (hk9 : k ≤ 9) (kk : pj_J G mX1_share (d + 2) 284 [some (.ref 2), some (.long x), none, some (.int set), some (.int rule), some (.ref 36), some (.int sum), some (.int (nI n)), some (.long w), none, some (.long (left - 1)), none, none, none, none] [] (sx_mk (sx_sR (sx_sM c (sx_sL c.1 14 (vp_updL g b.toNatClampNeg (-1)))) 2 (sx_sL (sx_R c 2) 3 (vp_updL f b.toNatClampNeg (f b.toNatClampNeg + 1)))) m o D) 0 0 Q) : pj_J G mX1_share (d + 2) 297 [some (.ref 2), some (.long x), none, some (.int set), some (.int rule), some (.ref 36), some (.int sum), some (.int (nI n)), some (.long w), none, some (.long left), none, some (.int b), some (.int (nI k)), none] [] (sx_mk (sx_sR (sx_sM c (sx_sL c.1 14 g)) 2 (sx_sL (sx_R c 2) 3 f)) m o D) 0 0 Q := by
  refine pj_J.go (oX1_share G) 3 rfl trivial ?_
  refine pj_J.pos (nI_ge_lit hk (by omega)) ?_
  refine pj_J.go (oX1_share G) 17 rfl ⟨by exact hb, by exact hb, by exact hb, trivial⟩ ?_
  exact pj_J.drp kk ⟨rfl, rfl, rfl, rfl, rfl, rfl, rfl, rfl, rfl, trivial⟩
theorem lp_shC_2 {G : pj_G} {d : Nat} {c : sx_C} {m : sx_M} {o : Nat → Int64} {D : pj_H} {Q : pj_O → pj_H → Prop} (x : Int64) (set rule sum : Int32) (n : Nat) (hn8 : n ≤ 8) (w : Int64) (g : Nat → Int64) (hset : vp_in set 4) (hw0 : ¬ w = 0) : ∀ (e k : Nat) (left : Int64) (f : Nat → Int64), k + e = n → Q (.inl none) (sx_mk (sx_sR (sx_sM c (sx_sL c.1 14 g)) 2 (sx_sL (sx_R c 2) 3 ((fc_shC c.1 set sum e k (left, f)).2))) m o D) → pj_J G mX1_share (d + 2) 233 [some (.ref 2), some (.long x), none, some (.int set), some (.int rule), some (.ref 36), some (.int sum), some (.int (nI n)), some (.long w), none, some (.long left), none, some (.int (nI k)), none, none] [] (sx_mk (sx_sR (sx_sM c (sx_sL c.1 14 g)) 2 (sx_sL (sx_R c 2) 3 f)) m o D) 0 0 Q := by
  intro e
  induction e with
  | zero =>
    intro k left f hk q
    exact lz_shC_2 x set rule sum n hn8 w left f g hset hw0 k (by omega) (Or.inl (by omega)) q
  | succ e ih =>
    intro k left f hk q
    unfold fc_shC at q
    by_cases hl : left ≤ 0
    · rw [if_pos hl] at q
      exact lz_shC_2 x set rule sum n hn8 w left f g hset hw0 k (by omega) (Or.inr hl) q
    · rw [if_neg hl] at q
      refine ly_shC_2 x set rule sum n hn8 w left f g hset hw0 k (by omega) hl (fun h => ?_) (fun h => ?_)
      · rw [if_pos h] at q
        rw [nI_add1]
        exact ih (k + 1) left f (by omega) q
      · rw [if_neg h] at q
        rw [nI_add1]
        exact ih (k + 1) _ _ (by omega) q
theorem lp_shD_2 {G : pj_G} {d : Nat} {c : sx_C} {m : sx_M} {o : Nat → Int64} {D : pj_H} {Q : pj_O → pj_H → Prop} (x : Int64) (set rule sum : Int32) (n : Nat) (hn8 : n ≤ 8) (hn1 : 1 ≤ n) (w : Int64) (hset : vp_in set 4) (hw0 : ¬ w = 0) : ∀ (e : Nat) (left : Int64) (f g : Nat → Int64), (fc_shD n e (left, f, g)).1 ≤ 0 → Q (.inl none) (sx_mk (sx_sR (sx_sM c (sx_sL c.1 14 ((fc_shD n e (left, f, g)).2.2))) 2 (sx_sL (sx_R c 2) 3 ((fc_shD n e (left, f, g)).2.1))) m o D) → pj_J G mX1_share (d + 2) 284 [some (.ref 2), some (.long x), none, some (.int set), some (.int rule), some (.ref 36), some (.int sum), some (.int (nI n)), some (.long w), none, some (.long left), none, none, none, none] [] (sx_mk (sx_sR (sx_sM c (sx_sL c.1 14 g)) 2 (sx_sL (sx_R c 2) 3 f)) m o D) 0 0 Q := by
  intro e
  induction e with
  | zero =>
    intro left f g hl q
    exact lz_shD_2 x set rule sum n hn8 w left f g hset hw0 hl q
  | succ e ih =>
    intro left f g hl q
    unfold fc_shD at q hl
    by_cases h : left ≤ 0
    · rw [if_pos h] at q hl
      exact lz_shD_2 x set rule sum n hn8 w left f g hset hw0 h q
    · rw [if_neg h] at q hl
      refine lx_shD_2 x set rule sum n hn8 w left f g hset hw0 h ?_
      refine pj_for (fun k b => pj_J G mX1_share (d + 2) 297 [some (.ref 2), some (.long x), none, some (.int set), some (.int rule), some (.ref 36), some (.int sum), some (.int (nI n)), some (.long w), none, some (.long left), none, some (.int b), some (.int (nI (k + 1))), none] [] (sx_mk (sx_sR (sx_sM c (sx_sL c.1 14 g)) 2 (sx_sL (sx_R c 2) 3 f)) m o D) 0 0 Q) (fc_shM g) (fun _ b => vp_in b 8) (n - 1) (fun k b hk hi => ⟨fc_shM_vp hi (by omega), fun kk => ly_shM_2 x set rule sum n hn8 w left f g hset hw0 b hi k (by omega) (by rw [nI_add1]; exact kk)⟩) (n - 1) 0 0 (by simp) (vp_in_lit (k := 0) (by decide)) (fun hi => ?_)
      refine lz_shM_2 x set rule sum n hn8 w left f g hset hw0 _ hi (n - 1 + 1) (by omega) (by omega) ?_
      exact ih _ _ _ hl q
theorem ly_shZ_3 {G : pj_G} {d : Nat} {c : sx_C} {m : sx_M} {o : Nat → Int64} {D : pj_H} {Q : pj_O → pj_H → Prop} (x : Int64) (set rule sum : Int32) (n : Nat) (hn8 : n ≤ 8) (w left : Int64) (f g : Nat → Int64) (hset : vp_in set 4) (hw0 : ¬ w = 0) (k : Nat) (hk : k < 8) (kk : pj_J G mX1_share (d + 2) 43 [some (.ref 2), some (.long x), none, some (.int set), some (.int rule), some (.ref 43), some (.int sum), some (.int (nI n)), some (.long w), none, some (.int (nI k + 1)), none, none, none, none] [] (sx_mk (sx_sM c (sx_sL (sx_sL c.1 14 g) 13 (fc_shZ k f))) m o D) 0 0 Q) : pj_J G mX1_share (d + 2) 43 [some (.ref 2), some (.long x), none, some (.int set), some (.int rule), some (.ref 43), some (.int sum), some (.int (nI n)), some (.long w), none, some (.int (nI k)), none, none, none, none] [] (sx_mk (sx_sM c (sx_sL (sx_sL c.1 14 g) 13 f)) m o D) 0 0 Q := by
  refine pj_J.go (oX1_share G) 3 rfl trivial ?_
  refine pj_J.neg (nI_lt_lit hk (by decide)) ?_
  refine pj_J.go (oX1_share G) 6 rfl ⟨by exact vp_in_lit (by omega), trivial⟩ ?_
  exact pj_J.drp kk ⟨rfl, rfl, rfl, rfl, rfl, rfl, rfl, rfl, rfl, trivial⟩
theorem ly_shA_3 {G : pj_G} {d : Nat} {c : sx_C} {m : sx_M} {o : Nat → Int64} {D : pj_H} {Q : pj_O → pj_H → Prop} (x : Int64) (set rule sum : Int32) (n : Nat) (hn8 : n ≤ 8) (w left : Int64) (f g : Nat → Int64) (hset : vp_in set 4) (hw0 : ¬ w = 0) (fr : Int32) (hfr : vp_in fr 8) (k : Nat) (hk : k < n) (kk : pj_J G mX1_share (d + 2) 90 [some (.ref 2), some (.long x), none, some (.int set), some (.int rule), some (.ref 43), some (.int sum), some (.int (nI n)), some (.long w), none, some (.long ((fc_shA c.1 x set sum w fr k (left, f)).1)), none, some (.int fr), some (.int (nI k + 1)), none] [] (sx_mk (sx_sM c (sx_sL (sx_sL c.1 14 g) 13 ((fc_shA c.1 x set sum w fr k (left, f)).2))) m o D) 0 0 Q) : pj_J G mX1_share (d + 2) 90 [some (.ref 2), some (.long x), none, some (.int set), some (.int rule), some (.ref 43), some (.int sum), some (.int (nI n)), some (.long w), none, some (.long left), none, some (.int fr), some (.int (nI k)), none] [] (sx_mk (sx_sM c (sx_sL (sx_sL c.1 14 g) 13 f)) m o D) 0 0 Q := by
  refine pj_J.go (oX1_share G) 3 rfl trivial ?_
  refine pj_J.neg (nI_lt_lit hk (by omega)) ?_
  refine pj_J.go (oX1_share G) 3 rfl trivial ?_
  refine pj_J.ite (fun hc101 => ?_) (fun hc101 => ?_)
  · skip
    refine pj_J.go (oX1_share G) 3 rfl trivial ?_
    unfold fc_shA at kk
    rw [if_pos (show (nI k) = fr from hc101)] at kk
    exact pj_J.drp kk ⟨rfl, rfl, rfl, rfl, rfl, rfl, rfl, rfl, rfl, rfl, rfl, trivial⟩
  · skip
    refine pj_J.go (oX1_share G) 7 rfl trivial ?_
    refine pj_J.cal0 kX1_share_118 (c_X1_weightOf (c := (sx_sM c (sx_sL (sx_sL c.1 14 g) 13 f))) set (nI k) sum hset (vp_in_lit (by omega))) ⟨_, _, _, rfl, rfl⟩ pj_le0 pj_le0 pj_le0 ?_
    refine pj_J.go (oX1_share G) 4 rfl trivial ?_
    refine pj_J.cal0 kX1_share_126 (c_X1_whole (x * (fc_weightOf c.1 set (nI k) sum).toInt64) w (0 : Int32) hw0) trivial pj_le0 pj_le0 pj_le0 ?_
    refine pj_J.go (oX1_share G) 9 rfl ⟨by exact vp_in_lit (by omega), by exact vp_in_lit (by omega), trivial⟩ ?_
    unfold fc_shA at kk
    rw [if_neg (show ¬ ((nI k) = fr) from hc101)] at kk
    simp only [fc_upL]
    exact pj_J.drp kk ⟨rfl, rfl, rfl, rfl, rfl, rfl, rfl, rfl, rfl, rfl, rfl, trivial⟩
theorem lz_shA_3 {G : pj_G} {d : Nat} {c : sx_C} {m : sx_M} {o : Nat → Int64} {D : pj_H} {Q : pj_O → pj_H → Prop} (x : Int64) (set rule sum : Int32) (n : Nat) (hn8 : n ≤ 8) (w left : Int64) (f g : Nat → Int64) (hset : vp_in set 4) (hw0 : ¬ w = 0) (fr : Int32) (hfr : vp_in fr 8) (q : Q (.inl none) (sx_mk (sx_sM c (sx_sL (sx_sL c.1 14 g) 13 (vp_updL f fr.toNatClampNeg left))) m o D)) : pj_J G mX1_share (d + 2) 90 [some (.ref 2), some (.long x), none, some (.int set), some (.int rule), some (.ref 43), some (.int sum), some (.int (nI n)), some (.long w), none, some (.long left), none, some (.int fr), some (.int (nI n)), none] [] (sx_mk (sx_sM c (sx_sL (sx_sL c.1 14 g) 13 f)) m o D) 0 0 Q := by
  refine pj_J.go (oX1_share G) 3 rfl trivial ?_
  refine pj_J.pos (nI_ge_lit (Nat.le_refl _) (by omega)) ?_
  refine pj_J.go (oX1_share G) 4 rfl ⟨by exact hfr, trivial⟩ ?_
  exact pj_vret dX1_share_153 rfl q
theorem ly_shB_3 {G : pj_G} {d : Nat} {c : sx_C} {m : sx_M} {o : Nat → Int64} {D : pj_H} {Q : pj_O → pj_H → Prop} (x : Int64) (set rule sum : Int32) (n : Nat) (hn8 : n ≤ 8) (w left : Int64) (f g : Nat → Int64) (hset : vp_in set 4) (hw0 : ¬ w = 0) (k : Nat) (hk : k < n) (kk : pj_J G mX1_share (d + 2) 157 [some (.ref 2), some (.long x), none, some (.int set), some (.int rule), some (.ref 43), some (.int sum), some (.int (nI n)), some (.long w), none, some (.long ((fc_shB c.1 x set sum w k (left, f, g)).1)), none, some (.int (nI k + 1)), none, none] [] (sx_mk (sx_sM c (sx_sL (sx_sL c.1 14 ((fc_shB c.1 x set sum w k (left, f, g)).2.2)) 13 ((fc_shB c.1 x set sum w k (left, f, g)).2.1))) m o D) 0 0 Q) : pj_J G mX1_share (d + 2) 157 [some (.ref 2), some (.long x), none, some (.int set), some (.int rule), some (.ref 43), some (.int sum), some (.int (nI n)), some (.long w), none, some (.long left), none, some (.int (nI k)), none, none] [] (sx_mk (sx_sM c (sx_sL (sx_sL c.1 14 g) 13 f)) m o D) 0 0 Q := by
  refine pj_J.go (oX1_share G) 3 rfl trivial ?_
  refine pj_J.neg (nI_lt_lit hk (by omega)) ?_
  refine pj_J.go (oX1_share G) 5 rfl trivial ?_
  refine pj_J.cal0 kX1_share_171 (c_X1_weightOf (c := (sx_sM c (sx_sL (sx_sL c.1 14 g) 13 f))) set (nI k) sum hset (vp_in_lit (by omega))) ⟨_, _, _, rfl, rfl⟩ pj_le0 pj_le0 pj_le0 ?_
  refine pj_J.go (oX1_share G) 7 rfl trivial ?_
  refine pj_J.cal0 kX1_share_186 (c_X1_floorOf (x * (fc_weightOf c.1 set (nI k) sum).toInt64) w hw0) trivial pj_le0 pj_le0 pj_le0 ?_
  refine pj_J.go (oX1_share G) 20 rfl ⟨by exact vp_in_lit (by omega), by exact vp_in_lit (by omega), by exact vp_in_lit (by omega), by exact vp_in_lit (by omega), trivial⟩ ?_
  unfold fc_shB at kk
  simp only [fc_upL]
  exact pj_J.drp kk ⟨rfl, rfl, rfl, rfl, rfl, rfl, rfl, rfl, rfl, rfl, trivial⟩
theorem lz_shB1_3 {G : pj_G} {d : Nat} {c : sx_C} {m : sx_M} {o : Nat → Int64} {D : pj_H} {Q : pj_O → pj_H → Prop} (x : Int64) (set rule sum : Int32) (n : Nat) (hn8 : n ≤ 8) (w left : Int64) (f g : Nat → Int64) (hset : vp_in set 4) (hw0 : ¬ w = 0) (hr : rule = 1) (kk : pj_J G mX1_share (d + 2) 233 [some (.ref 2), some (.long x), none, some (.int set), some (.int rule), some (.ref 43), some (.int sum), some (.int (nI n)), some (.long w), none, some (.long left), none, some (.int (nI 0)), none, none] [] (sx_mk (sx_sM c (sx_sL (sx_sL c.1 14 g) 13 f)) m o D) 0 0 Q) : pj_J G mX1_share (d + 2) 157 [some (.ref 2), some (.long x), none, some (.int set), some (.int rule), some (.ref 43), some (.int sum), some (.int (nI n)), some (.long w), none, some (.long left), none, some (.int (nI n)), none, none] [] (sx_mk (sx_sM c (sx_sL (sx_sL c.1 14 g) 13 f)) m o D) 0 0 Q := by
  refine pj_J.go (oX1_share G) 3 rfl trivial ?_
  refine pj_J.pos (nI_ge_lit (Nat.le_refl _) (by omega)) ?_
  refine pj_J.go (oX1_share G) 3 rfl trivial ?_
  refine pj_J.pos (hr) ?_
  refine pj_J.go (oX1_share G) 2 rfl trivial ?_
  exact pj_J.drp kk ⟨rfl, rfl, rfl, rfl, rfl, rfl, rfl, rfl, rfl, rfl, trivial⟩
theorem lz_shB0_3 {G : pj_G} {d : Nat} {c : sx_C} {m : sx_M} {o : Nat → Int64} {D : pj_H} {Q : pj_O → pj_H → Prop} (x : Int64) (set rule sum : Int32) (n : Nat) (hn8 : n ≤ 8) (w left : Int64) (f g : Nat → Int64) (hset : vp_in set 4) (hw0 : ¬ w = 0) (hr : ¬ rule = 1) (kk : pj_J G mX1_share (d + 2) 284 [some (.ref 2), some (.long x), none, some (.int set), some (.int rule), some (.ref 43), some (.int sum), some (.int (nI n)), some (.long w), none, some (.long left), none, none, none, none] [] (sx_mk (sx_sM c (sx_sL (sx_sL c.1 14 g) 13 f)) m o D) 0 0 Q) : pj_J G mX1_share (d + 2) 157 [some (.ref 2), some (.long x), none, some (.int set), some (.int rule), some (.ref 43), some (.int sum), some (.int (nI n)), some (.long w), none, some (.long left), none, some (.int (nI n)), none, none] [] (sx_mk (sx_sM c (sx_sL (sx_sL c.1 14 g) 13 f)) m o D) 0 0 Q := by
  refine pj_J.go (oX1_share G) 3 rfl trivial ?_
  refine pj_J.pos (nI_ge_lit (Nat.le_refl _) (by omega)) ?_
  refine pj_J.go (oX1_share G) 3 rfl trivial ?_
  refine pj_J.neg (hr) ?_
  exact pj_J.drp kk ⟨rfl, rfl, rfl, rfl, rfl, rfl, rfl, rfl, rfl, trivial⟩
theorem ly_shC_3 {G : pj_G} {d : Nat} {c : sx_C} {m : sx_M} {o : Nat → Int64} {D : pj_H} {Q : pj_O → pj_H → Prop} (x : Int64) (set rule sum : Int32) (n : Nat) (hn8 : n ≤ 8) (w left : Int64) (f g : Nat → Int64) (hset : vp_in set 4) (hw0 : ¬ w = 0) (k : Nat) (hk : k < n) (hl : ¬ left ≤ 0) (k1 : fc_weightOf c.1 set (nI k) sum = 0 → pj_J G mX1_share (d + 2) 233 [some (.ref 2), some (.long x), none, some (.int set), some (.int rule), some (.ref 43), some (.int sum), some (.int (nI n)), some (.long w), none, some (.long left), none, some (.int (nI k + 1)), none, none] [] (sx_mk (sx_sM c (sx_sL (sx_sL c.1 14 g) 13 f)) m o D) 0 0 Q) (k2 : ¬ fc_weightOf c.1 set (nI k) sum = 0 → pj_J G mX1_share (d + 2) 233 [some (.ref 2), some (.long x), none, some (.int set), some (.int rule), some (.ref 43), some (.int sum), some (.int (nI n)), some (.long w), none, some (.long (left - 1)), none, some (.int (nI k + 1)), none, none] [] (sx_mk (sx_sM c (sx_sL (sx_sL c.1 14 g) 13 (vp_updL f (nI k).toNatClampNeg (f (nI k).toNatClampNeg + 1)))) m o D) 0 0 Q) : pj_J G mX1_share (d + 2) 233 [some (.ref 2), some (.long x), none, some (.int set), some (.int rule), some (.ref 43), some (.int sum), some (.int (nI n)), some (.long w), none, some (.long left), none, some (.int (nI k)), none, none] [] (sx_mk (sx_sM c (sx_sL (sx_sL c.1 14 g) 13 f)) m o D) 0 0 Q := by
  refine pj_J.go (oX1_share G) 3 rfl trivial ?_
  refine pj_J.neg (nI_lt_lit hk (by omega)) ?_
  refine pj_J.go (oX1_share G) 4 rfl trivial ?_
  refine pj_J.neg (by rw [pj_lc_le]; exact hl) ?_
  refine pj_J.go (oX1_share G) 4 rfl trivial ?_
  refine pj_J.cal0 kX1_share_253 (c_X1_weightOf (c := (sx_sM c (sx_sL (sx_sL c.1 14 g) 13 f))) set (nI k) sum hset (vp_in_lit (by omega))) ⟨_, _, _, rfl, rfl⟩ pj_le0 pj_le0 pj_le0 ?_
  refine pj_J.go (oX1_share G) 1 rfl trivial ?_
  refine pj_J.ite (fun hc256 => ?_) (fun hc256 => ?_)
  · skip
    refine pj_J.go (oX1_share G) 3 rfl trivial ?_
    exact pj_J.drp (k1 hc256) ⟨rfl, rfl, rfl, rfl, rfl, rfl, rfl, rfl, rfl, rfl, trivial⟩
  · skip
    refine pj_J.go (oX1_share G) 13 rfl ⟨by exact vp_in_lit (by omega), by exact vp_in_lit (by omega), trivial⟩ ?_
    exact pj_J.drp (k2 hc256) ⟨rfl, rfl, rfl, rfl, rfl, rfl, rfl, rfl, rfl, rfl, trivial⟩
theorem lz_shC_3 {G : pj_G} {d : Nat} {c : sx_C} {m : sx_M} {o : Nat → Int64} {D : pj_H} {Q : pj_O → pj_H → Prop} (x : Int64) (set rule sum : Int32) (n : Nat) (hn8 : n ≤ 8) (w left : Int64) (f g : Nat → Int64) (hset : vp_in set 4) (hw0 : ¬ w = 0) (k : Nat) (hk : k ≤ n) (hx : k = n ∨ left ≤ 0) (q : Q (.inl none) (sx_mk (sx_sM c (sx_sL (sx_sL c.1 14 g) 13 f)) m o D)) : pj_J G mX1_share (d + 2) 233 [some (.ref 2), some (.long x), none, some (.int set), some (.int rule), some (.ref 43), some (.int sum), some (.int (nI n)), some (.long w), none, some (.long left), none, some (.int (nI k)), none, none] [] (sx_mk (sx_sM c (sx_sL (sx_sL c.1 14 g) 13 f)) m o D) 0 0 Q := by
  refine pj_J.go (oX1_share G) 3 rfl trivial ?_
  refine pj_J.ite (fun hc237 => ?_) (fun hc237 => ?_)
  · skip
    exact pj_vret dX1_share_283 rfl q
  · skip
    refine pj_J.go (oX1_share G) 4 rfl trivial ?_
    refine pj_J.ite (fun hc244 => ?_) (fun hc244 => ?_)
    · simp only [pj_lc_le] at hc244
      exact pj_vret dX1_share_283 rfl q
    · simp only [pj_lc_le] at hc244
      exfalso
      rcases hx with hx | hx
      · subst hx; exact hc237 (nI_ge_lit (Nat.le_refl _) (by omega))
      · exact hc244 hx
theorem lz_shD_3 {G : pj_G} {d : Nat} {c : sx_C} {m : sx_M} {o : Nat → Int64} {D : pj_H} {Q : pj_O → pj_H → Prop} (x : Int64) (set rule sum : Int32) (n : Nat) (hn8 : n ≤ 8) (w left : Int64) (f g : Nat → Int64) (hset : vp_in set 4) (hw0 : ¬ w = 0) (hl : left ≤ 0) (q : Q (.inl none) (sx_mk (sx_sM c (sx_sL (sx_sL c.1 14 g) 13 f)) m o D)) : pj_J G mX1_share (d + 2) 284 [some (.ref 2), some (.long x), none, some (.int set), some (.int rule), some (.ref 43), some (.int sum), some (.int (nI n)), some (.long w), none, some (.long left), none, none, none, none] [] (sx_mk (sx_sM c (sx_sL (sx_sL c.1 14 g) 13 f)) m o D) 0 0 Q := by
  refine pj_J.go (oX1_share G) 4 rfl trivial ?_
  refine pj_J.pos (by rw [pj_lc_le]; exact hl) ?_
  exact pj_vret dX1_share_360 rfl q
theorem lx_shD_3 {G : pj_G} {d : Nat} {c : sx_C} {m : sx_M} {o : Nat → Int64} {D : pj_H} {Q : pj_O → pj_H → Prop} (x : Int64) (set rule sum : Int32) (n : Nat) (hn8 : n ≤ 8) (w left : Int64) (f g : Nat → Int64) (hset : vp_in set 4) (hw0 : ¬ w = 0) (hl : ¬ left ≤ 0) (kk : pj_J G mX1_share (d + 2) 297 [some (.ref 2), some (.long x), none, some (.int set), some (.int rule), some (.ref 43), some (.int sum), some (.int (nI n)), some (.long w), none, some (.long left), none, some (.int 0), some (.int (nI 1)), none] [] (sx_mk (sx_sM c (sx_sL (sx_sL c.1 14 g) 13 f)) m o D) 0 0 Q) : pj_J G mX1_share (d + 2) 284 [some (.ref 2), some (.long x), none, some (.int set), some (.int rule), some (.ref 43), some (.int sum), some (.int (nI n)), some (.long w), none, some (.long left), none, none, none, none] [] (sx_mk (sx_sM c (sx_sL (sx_sL c.1 14 g) 13 f)) m o D) 0 0 Q := by
  refine pj_J.go (oX1_share G) 4 rfl trivial ?_
  refine pj_J.neg (by rw [pj_lc_le]; exact hl) ?_
  refine pj_J.go (oX1_share G) 4 rfl trivial ?_
  exact pj_J.drp kk ⟨rfl, rfl, rfl, rfl, rfl, rfl, rfl, rfl, rfl, rfl, rfl, trivial⟩
theorem ly_shM_3 {G : pj_G} {d : Nat} {c : sx_C} {m : sx_M} {o : Nat → Int64} {D : pj_H} {Q : pj_O → pj_H → Prop} (x : Int64) (set rule sum : Int32) (n : Nat) (hn8 : n ≤ 8) (w left : Int64) (f g : Nat → Int64) (hset : vp_in set 4) (hw0 : ¬ w = 0) (b : Int32) (hb : vp_in b 8) (k : Nat) (hk : k + 1 < n) (kk : pj_J G mX1_share (d + 2) 297 [some (.ref 2), some (.long x), none, some (.int set), some (.int rule), some (.ref 43), some (.int sum), some (.int (nI n)), some (.long w), none, some (.long left), none, some (.int (fc_shM g k b)), some (.int (nI (k + 1) + 1)), none] [] (sx_mk (sx_sM c (sx_sL (sx_sL c.1 14 g) 13 f)) m o D) 0 0 Q) : pj_J G mX1_share (d + 2) 297 [some (.ref 2), some (.long x), none, some (.int set), some (.int rule), some (.ref 43), some (.int sum), some (.int (nI n)), some (.long w), none, some (.long left), none, some (.int b), some (.int (nI (k + 1))), none] [] (sx_mk (sx_sM c (sx_sL (sx_sL c.1 14 g) 13 f)) m o D) 0 0 Q := by
  refine pj_J.go (oX1_share G) 3 rfl trivial ?_
  refine pj_J.neg (nI_lt_lit hk (by omega)) ?_
  refine pj_J.go (oX1_share G) 10 rfl ⟨by exact vp_in_lit (by omega), by exact hb, trivial⟩ ?_
  refine pj_J.ite (fun hc319 => ?_) (fun hc319 => ?_)
  · simp only [pj_lc_le] at hc319
    refine pj_J.go (oX1_share G) 2 rfl trivial ?_
    unfold fc_shM at kk
    rw [if_pos (show (g (nI (k + 1)).toNatClampNeg) ≤ (g b.toNatClampNeg) from hc319)] at kk
    exact pj_J.drp kk ⟨rfl, rfl, rfl, rfl, rfl, rfl, rfl, rfl, rfl, rfl, rfl, trivial⟩
  · simp only [pj_lc_le] at hc319
    refine pj_J.go (oX1_share G) 4 rfl trivial ?_
    unfold fc_shM at kk
    rw [if_neg (show ¬ ((g (nI (k + 1)).toNatClampNeg) ≤ (g b.toNatClampNeg)) from hc319)] at kk
    exact pj_J.drp kk ⟨rfl, rfl, rfl, rfl, rfl, rfl, rfl, rfl, rfl, rfl, rfl, trivial⟩
theorem lz_shM_3 {G : pj_G} {d : Nat} {c : sx_C} {m : sx_M} {o : Nat → Int64} {D : pj_H} {Q : pj_O → pj_H → Prop} (x : Int64) (set rule sum : Int32) (n : Nat) (hn8 : n ≤ 8) (w left : Int64) (f g : Nat → Int64) (hset : vp_in set 4) (hw0 : ¬ w = 0) (b : Int32) (hb : vp_in b 8) (k : Nat) (hk : n ≤ k) (hk9 : k ≤ 9) (kk : pj_J G mX1_share (d + 2) 284 [some (.ref 2), some (.long x), none, some (.int set), some (.int rule), some (.ref 43), some (.int sum), some (.int (nI n)), some (.long w), none, some (.long (left - 1)), none, none, none, none] [] (sx_mk (sx_sM c (sx_sL (sx_sL c.1 14 (vp_updL g b.toNatClampNeg (-1))) 13 (vp_updL f b.toNatClampNeg (f b.toNatClampNeg + 1)))) m o D) 0 0 Q) : pj_J G mX1_share (d + 2) 297 [some (.ref 2), some (.long x), none, some (.int set), some (.int rule), some (.ref 43), some (.int sum), some (.int (nI n)), some (.long w), none, some (.long left), none, some (.int b), some (.int (nI k)), none] [] (sx_mk (sx_sM c (sx_sL (sx_sL c.1 14 g) 13 f)) m o D) 0 0 Q := by
  refine pj_J.go (oX1_share G) 3 rfl trivial ?_
  refine pj_J.pos (nI_ge_lit hk (by omega)) ?_
  refine pj_J.go (oX1_share G) 17 rfl ⟨by exact hb, by exact hb, by exact hb, trivial⟩ ?_
  exact pj_J.drp kk ⟨rfl, rfl, rfl, rfl, rfl, rfl, rfl, rfl, rfl, trivial⟩
theorem lp_shC_3 {G : pj_G} {d : Nat} {c : sx_C} {m : sx_M} {o : Nat → Int64} {D : pj_H} {Q : pj_O → pj_H → Prop} (x : Int64) (set rule sum : Int32) (n : Nat) (hn8 : n ≤ 8) (w : Int64) (g : Nat → Int64) (hset : vp_in set 4) (hw0 : ¬ w = 0) : ∀ (e k : Nat) (left : Int64) (f : Nat → Int64), k + e = n → Q (.inl none) (sx_mk (sx_sM c (sx_sL (sx_sL c.1 14 g) 13 ((fc_shC c.1 set sum e k (left, f)).2))) m o D) → pj_J G mX1_share (d + 2) 233 [some (.ref 2), some (.long x), none, some (.int set), some (.int rule), some (.ref 43), some (.int sum), some (.int (nI n)), some (.long w), none, some (.long left), none, some (.int (nI k)), none, none] [] (sx_mk (sx_sM c (sx_sL (sx_sL c.1 14 g) 13 f)) m o D) 0 0 Q := by
  intro e
  induction e with
  | zero =>
    intro k left f hk q
    exact lz_shC_3 x set rule sum n hn8 w left f g hset hw0 k (by omega) (Or.inl (by omega)) q
  | succ e ih =>
    intro k left f hk q
    unfold fc_shC at q
    by_cases hl : left ≤ 0
    · rw [if_pos hl] at q
      exact lz_shC_3 x set rule sum n hn8 w left f g hset hw0 k (by omega) (Or.inr hl) q
    · rw [if_neg hl] at q
      refine ly_shC_3 x set rule sum n hn8 w left f g hset hw0 k (by omega) hl (fun h => ?_) (fun h => ?_)
      · rw [if_pos h] at q
        rw [nI_add1]
        exact ih (k + 1) left f (by omega) q
      · rw [if_neg h] at q
        rw [nI_add1]
        exact ih (k + 1) _ _ (by omega) q
theorem lp_shD_3 {G : pj_G} {d : Nat} {c : sx_C} {m : sx_M} {o : Nat → Int64} {D : pj_H} {Q : pj_O → pj_H → Prop} (x : Int64) (set rule sum : Int32) (n : Nat) (hn8 : n ≤ 8) (hn1 : 1 ≤ n) (w : Int64) (hset : vp_in set 4) (hw0 : ¬ w = 0) : ∀ (e : Nat) (left : Int64) (f g : Nat → Int64), (fc_shD n e (left, f, g)).1 ≤ 0 → Q (.inl none) (sx_mk (sx_sM c (sx_sL (sx_sL c.1 14 ((fc_shD n e (left, f, g)).2.2)) 13 ((fc_shD n e (left, f, g)).2.1))) m o D) → pj_J G mX1_share (d + 2) 284 [some (.ref 2), some (.long x), none, some (.int set), some (.int rule), some (.ref 43), some (.int sum), some (.int (nI n)), some (.long w), none, some (.long left), none, none, none, none] [] (sx_mk (sx_sM c (sx_sL (sx_sL c.1 14 g) 13 f)) m o D) 0 0 Q := by
  intro e
  induction e with
  | zero =>
    intro left f g hl q
    exact lz_shD_3 x set rule sum n hn8 w left f g hset hw0 hl q
  | succ e ih =>
    intro left f g hl q
    unfold fc_shD at q hl
    by_cases h : left ≤ 0
    · rw [if_pos h] at q hl
      exact lz_shD_3 x set rule sum n hn8 w left f g hset hw0 h q
    · rw [if_neg h] at q hl
      refine lx_shD_3 x set rule sum n hn8 w left f g hset hw0 h ?_
      refine pj_for (fun k b => pj_J G mX1_share (d + 2) 297 [some (.ref 2), some (.long x), none, some (.int set), some (.int rule), some (.ref 43), some (.int sum), some (.int (nI n)), some (.long w), none, some (.long left), none, some (.int b), some (.int (nI (k + 1))), none] [] (sx_mk (sx_sM c (sx_sL (sx_sL c.1 14 g) 13 f)) m o D) 0 0 Q) (fc_shM g) (fun _ b => vp_in b 8) (n - 1) (fun k b hk hi => ⟨fc_shM_vp hi (by omega), fun kk => ly_shM_3 x set rule sum n hn8 w left f g hset hw0 b hi k (by omega) (by rw [nI_add1]; exact kk)⟩) (n - 1) 0 0 (by simp) (vp_in_lit (k := 0) (by decide)) (fun hi => ?_)
      refine lz_shM_3 x set rule sum n hn8 w left f g hset hw0 _ hi (n - 1 + 1) (by omega) (by omega) ?_
      exact ih _ _ _ hl q
/-- what share leaves in its row (and in rests) -/
def fc_shF (n : Int32) (rule : Int32) : Int32 := if rule = 2 then n - 1 else 0
def fc_share0 (f : Nat → Int64) : Nat → Int64 := it_up fc_shZ 8 0 f
def fc_shareR (u : sx_M) (x : Int64) (set rule sum : Int32) (n : Nat) (w : Int64) (f g : Nat → Int64) : (Nat → Int64) × (Nat → Int64) :=
  if rule ≤ 1 then
    if rule = 1 then ((fc_shC u set sum n 0 ((it_up (fc_shB u x set sum w) n 0 (x, f, g)).1, (it_up (fc_shB u x set sum w) n 0 (x, f, g)).2.1)).2, (it_up (fc_shB u x set sum w) n 0 (x, f, g)).2.2)
    else (fc_shD n 8 (it_up (fc_shB u x set sum w) n 0 (x, f, g))).2
  else (vp_updL (it_up (fc_shA u x set sum w (fc_shF (nI n) rule)) n 0 (x, f)).2 (fc_shF (nI n) rule).toNatClampNeg (it_up (fc_shA u x set sum w (fc_shF (nI n) rule)) n 0 (x, f)).1, g)
def fc_share (u : sx_M) (x : Int64) (set rule : Int32) (f : Nat → Int64) : (Nat → Int64) × (Nat → Int64) := fc_shareR u x set rule (fc_wholeWeight u set) (fc_many u set (fc_wholeWeight u set)).toNatClampNeg (fc_wOf (fc_wholeWeight u set)) (fc_share0 f) (sx_L u 14)
/-- what share asks: weights in their rows, something to share among, rule 0 ends -/
def fc_shOk (u : sx_M) (x : Int64) (set rule : Int32) (f : Nat → Int64) : Prop := vp_in set 4 ∧ vp_in (sx_I u 5 set.toNatClampNeg) 9 ∧ ¬ fc_wOf (fc_wholeWeight u set) = 0 ∧ 1 ≤ (fc_many u set (fc_wholeWeight u set)).toNatClampNeg ∧ (¬ rule ≤ 1 ∨ rule = 1 ∨ (fc_shD (fc_many u set (fc_wholeWeight u set)).toNatClampNeg 8 (it_up (fc_shB u x set (fc_wholeWeight u set) (fc_wOf (fc_wholeWeight u set))) (fc_many u set (fc_wholeWeight u set)).toNatClampNeg 0 (x, fc_share0 f, sx_L u 14))).1 ≤ 0)
theorem fc_shF_vp {n : Nat} {rule : Int32} (h1 : 1 ≤ n) (h8 : n ≤ 8) : vp_in (fc_shF (nI n) rule) 8 := by
  unfold fc_shF
  split
  · rw [nI_s1 h1]
    exact vp_in_lit (by omega)
  · exact vp_in_lit (k := 0) (by decide)
theorem lz_shZ1_0 {G : pj_G} {d : Nat} {c : sx_C} {m : sx_M} {o : Nat → Int64} {D : pj_H} {Q : pj_O → pj_H → Prop} (x : Int64) (set rule sum : Int32) (n : Nat) (hn8 : n ≤ 8) (w left : Int64) (f g : Nat → Int64) (hset : vp_in set 4) (hw0 : ¬ w = 0) (hr : rule ≤ 1) (kk : pj_J G mX1_share (d + 2) 157 [some (.ref 2), some (.long x), none, some (.int set), some (.int rule), some (.ref 14), some (.int sum), some (.int (nI n)), some (.long w), none, some (.long x), none, some (.int (nI 0)), none, none] [] (sx_mk (sx_sR (sx_sM c (sx_sL c.1 14 g)) 0 (sx_sL (sx_R c 0) 3 f)) m o D) 0 0 Q) : pj_J G mX1_share (d + 2) 43 [some (.ref 2), some (.long x), none, some (.int set), some (.int rule), some (.ref 14), some (.int sum), some (.int (nI n)), some (.long w), none, some (.int (nI 8)), none, none, none, none] [] (sx_mk (sx_sR (sx_sM c (sx_sL c.1 14 g)) 0 (sx_sL (sx_R c 0) 3 f)) m o D) 0 0 Q := by
  refine pj_J.go (oX1_share G) 3 rfl trivial ?_
  refine pj_J.pos (nI_ge_lit (Nat.le_refl _) (by decide)) ?_
  refine pj_J.go (oX1_share G) 5 rfl trivial ?_
  refine pj_J.pos (hr) ?_
  refine pj_J.go (oX1_share G) 2 rfl trivial ?_
  exact pj_J.drp kk ⟨rfl, rfl, rfl, rfl, rfl, rfl, rfl, rfl, rfl, rfl, trivial⟩
theorem lz_shZ2_0 {G : pj_G} {d : Nat} {c : sx_C} {m : sx_M} {o : Nat → Int64} {D : pj_H} {Q : pj_O → pj_H → Prop} (x : Int64) (set rule sum : Int32) (n : Nat) (hn8 : n ≤ 8) (w left : Int64) (f g : Nat → Int64) (hset : vp_in set 4) (hw0 : ¬ w = 0) (hr : ¬ rule ≤ 1) (kk : pj_J G mX1_share (d + 2) 90 [some (.ref 2), some (.long x), none, some (.int set), some (.int rule), some (.ref 14), some (.int sum), some (.int (nI n)), some (.long w), none, some (.long x), none, some (.int (fc_shF (nI n) rule)), some (.int (nI 0)), none] [] (sx_mk (sx_sR (sx_sM c (sx_sL c.1 14 g)) 0 (sx_sL (sx_R c 0) 3 f)) m o D) 0 0 Q) : pj_J G mX1_share (d + 2) 43 [some (.ref 2), some (.long x), none, some (.int set), some (.int rule), some (.ref 14), some (.int sum), some (.int (nI n)), some (.long w), none, some (.int (nI 8)), none, none, none, none] [] (sx_mk (sx_sR (sx_sM c (sx_sL c.1 14 g)) 0 (sx_sL (sx_R c 0) 3 f)) m o D) 0 0 Q := by
  refine pj_J.go (oX1_share G) 3 rfl trivial ?_
  refine pj_J.pos (nI_ge_lit (Nat.le_refl _) (by decide)) ?_
  refine pj_J.go (oX1_share G) 5 rfl trivial ?_
  refine pj_J.neg (hr) ?_
  refine pj_J.go (oX1_share G) 3 rfl trivial ?_
  refine pj_J.ite (fun hc74 => ?_) (fun hc74 => ?_)
  · skip
    refine pj_J.go (oX1_share G) 7 rfl trivial ?_
    unfold fc_shF at kk
    rw [if_pos (show rule = (2 : Int32) from hc74)] at kk
    exact pj_J.drp kk ⟨rfl, rfl, rfl, rfl, rfl, rfl, rfl, rfl, rfl, rfl, rfl, trivial⟩
  · skip
    refine pj_J.go (oX1_share G) 4 rfl trivial ?_
    unfold fc_shF at kk
    rw [if_neg (show ¬ (rule = (2 : Int32)) from hc74)] at kk
    exact pj_J.drp kk ⟨rfl, rfl, rfl, rfl, rfl, rfl, rfl, rfl, rfl, rfl, rfl, trivial⟩
theorem lp_shB_0 {G : pj_G} {d : Nat} {c : sx_C} {m : sx_M} {o : Nat → Int64} {D : pj_H} {Q : pj_O → pj_H → Prop} (x : Int64) (set rule sum : Int32) (n : Nat) (hn8 : n ≤ 8) (w : Int64) (hset : vp_in set 4) (hw0 : ¬ w = 0) (z0 : Int64 × (Nat → Int64) × (Nat → Int64)) (kk : ∀ z, it_up (fc_shB c.1 x set sum w) n 0 z0 = z → pj_J G mX1_share (d + 2) 157 [some (.ref 2), some (.long x), none, some (.int set), some (.int rule), some (.ref 14), some (.int sum), some (.int (nI n)), some (.long w), none, some (.long z.1), none, some (.int (nI n)), none, none] [] (sx_mk (sx_sR (sx_sM c (sx_sL c.1 14 z.2.2)) 0 (sx_sL (sx_R c 0) 3 z.2.1)) m o D) 0 0 Q) : pj_J G mX1_share (d + 2) 157 [some (.ref 2), some (.long x), none, some (.int set), some (.int rule), some (.ref 14), some (.int sum), some (.int (nI n)), some (.long w), none, some (.long z0.1), none, some (.int (nI 0)), none, none] [] (sx_mk (sx_sR (sx_sM c (sx_sL c.1 14 z0.2.2)) 0 (sx_sL (sx_R c 0) 3 z0.2.1)) m o D) 0 0 Q := by
  refine pj_for (σ := Int64 × (Nat → Int64) × (Nat → Int64)) (fun (k : Nat) (z : Int64 × (Nat → Int64) × (Nat → Int64)) => pj_J G mX1_share (d + 2) 157 [some (.ref 2), some (.long x), none, some (.int set), some (.int rule), some (.ref 14), some (.int sum), some (.int (nI n)), some (.long w), none, some (.long z.1), none, some (.int (nI k)), none, none] [] (sx_mk (sx_sR (sx_sM c (sx_sL c.1 14 z.2.2)) 0 (sx_sL (sx_R c 0) 3 z.2.1)) m o D) 0 0 Q) (fc_shB c.1 x set sum w) (fun _ _ => True) n (fun k z hk hi => ?_) n 0 z0 (by simp) trivial (fun _ => kk (it_up (fc_shB c.1 x set sum w) n 0 z0) rfl)
  obtain ⟨l, f, g⟩ := z
  exact ⟨trivial, fun kk => ly_shB_0 x set rule sum n hn8 w l f g hset hw0 k hk (by rw [nI_add1]; exact kk)⟩
theorem lp_shA_0 {G : pj_G} {d : Nat} {c : sx_C} {m : sx_M} {o : Nat → Int64} {D : pj_H} {Q : pj_O → pj_H → Prop} (x : Int64) (set rule sum : Int32) (n : Nat) (hn8 : n ≤ 8) (w : Int64) (hset : vp_in set 4) (hw0 : ¬ w = 0) (fr : Int32) (hfr : vp_in fr 8) (g : Nat → Int64) (z0 : Int64 × (Nat → Int64)) (kk : ∀ z, it_up (fc_shA c.1 x set sum w fr) n 0 z0 = z → pj_J G mX1_share (d + 2) 90 [some (.ref 2), some (.long x), none, some (.int set), some (.int rule), some (.ref 14), some (.int sum), some (.int (nI n)), some (.long w), none, some (.long z.1), none, some (.int fr), some (.int (nI n)), none] [] (sx_mk (sx_sR (sx_sM c (sx_sL c.1 14 g)) 0 (sx_sL (sx_R c 0) 3 z.2)) m o D) 0 0 Q) : pj_J G mX1_share (d + 2) 90 [some (.ref 2), some (.long x), none, some (.int set), some (.int rule), some (.ref 14), some (.int sum), some (.int (nI n)), some (.long w), none, some (.long z0.1), none, some (.int fr), some (.int (nI 0)), none] [] (sx_mk (sx_sR (sx_sM c (sx_sL c.1 14 g)) 0 (sx_sL (sx_R c 0) 3 z0.2)) m o D) 0 0 Q := by
  refine pj_for (σ := Int64 × (Nat → Int64)) (fun (k : Nat) (z : Int64 × (Nat → Int64)) => pj_J G mX1_share (d + 2) 90 [some (.ref 2), some (.long x), none, some (.int set), some (.int rule), some (.ref 14), some (.int sum), some (.int (nI n)), some (.long w), none, some (.long z.1), none, some (.int fr), some (.int (nI k)), none] [] (sx_mk (sx_sR (sx_sM c (sx_sL c.1 14 g)) 0 (sx_sL (sx_R c 0) 3 z.2)) m o D) 0 0 Q) (fc_shA c.1 x set sum w fr) (fun _ _ => True) n (fun k z hk hi => ?_) n 0 z0 (by simp) trivial (fun _ => kk (it_up (fc_shA c.1 x set sum w fr) n 0 z0) rfl)
  obtain ⟨l, f⟩ := z
  exact ⟨trivial, fun kk => ly_shA_0 x set rule sum n hn8 w l f g hset hw0 fr hfr k hk (by rw [nI_add1]; exact kk)⟩
theorem lp_shR_0 {G : pj_G} {d : Nat} {c : sx_C} {m : sx_M} {o : Nat → Int64} {D : pj_H} {Q : pj_O → pj_H → Prop} (x : Int64) (set rule sum : Int32) (n : Nat) (hn8 : n ≤ 8) (hn1 : 1 ≤ n) (w : Int64) (f g : Nat → Int64) (hset : vp_in set 4) (hw0 : ¬ w = 0) (hD : ¬ rule ≤ 1 ∨ rule = 1 ∨ (fc_shD n 8 (it_up (fc_shB c.1 x set sum w) n 0 (x, f, g))).1 ≤ 0) (q : Q (.inl none) (sx_mk (sx_sR (sx_sM c (sx_sL c.1 14 ((fc_shareR c.1 x set rule sum n w f g).2))) 0 (sx_sL (sx_R c 0) 3 ((fc_shareR c.1 x set rule sum n w f g).1))) m o D)) : pj_J G mX1_share (d + 2) 43 [some (.ref 2), some (.long x), none, some (.int set), some (.int rule), some (.ref 14), some (.int sum), some (.int (nI n)), some (.long w), none, some (.int (nI 8)), none, none, none, none] [] (sx_mk (sx_sR (sx_sM c (sx_sL c.1 14 g)) 0 (sx_sL (sx_R c 0) 3 f)) m o D) 0 0 Q := by
  unfold fc_shareR at q
  by_cases hr : rule ≤ 1
  · rw [if_pos hr] at q
    refine lz_shZ1_0 x set rule sum n hn8 w x f g hset hw0 hr ?_
    refine lp_shB_0 x set rule sum n hn8 w hset hw0 (x, f, g) (fun z hz => ?_)
    rw [hz] at q hD
    obtain ⟨l, f2, g2⟩ := z
    by_cases h1 : rule = 1
    · rw [if_pos h1] at q
      exact lz_shB1_0 x set rule sum n hn8 w l f2 g2 hset hw0 h1 (lp_shC_0 x set rule sum n hn8 w g2 hset hw0 n 0 l f2 (by omega) q)
    · rw [if_neg h1] at q
      exact lz_shB0_0 x set rule sum n hn8 w l f2 g2 hset hw0 h1 (lp_shD_0 x set rule sum n hn8 hn1 w hset hw0 8 l f2 g2 (by rcases hD with h | h | h; exact absurd hr h; exact absurd h h1; exact h) q)
  · rw [if_neg hr] at q
    refine lz_shZ2_0 x set rule sum n hn8 w x f g hset hw0 hr ?_
    refine lp_shA_0 x set rule sum n hn8 w hset hw0 (fc_shF (nI n) rule) (fc_shF_vp hn1 hn8) g (x, f) (fun z hz => ?_)
    rw [hz] at q
    obtain ⟨l, f2⟩ := z
    exact lz_shA_0 x set rule sum n hn8 w l f2 g hset hw0 _ (fc_shF_vp hn1 hn8) q
theorem c_X1_share_0 {G : pj_G} {d : Nat} {c : sx_C} {m : sx_M} {o : Nat → Int64} {D : pj_H} (x : Int64) (set rule : Int32) (hO : fc_shOk c.1 x set rule (sx_L (sx_R c 0) 3)) : pj_Rt G mX1_share (d + 2) [.ref 2, .long x, .int set, .int rule, .ref 14] (sx_mk c m o D) 0 0 none (sx_mk (sx_sR (sx_sM c (sx_sL c.1 14 ((fc_share c.1 x set rule (sx_L (sx_R c 0) 3)).2))) 0 (sx_sL (sx_R c 0) 3 ((fc_share c.1 x set rule (sx_L (sx_R c 0) 3)).1))) m o D) := by
  obtain ⟨hset, hwc, hw0, hn1, hD⟩ := hO
  obtain ⟨n, hn8, hn⟩ := fc_many_vp hwc (fc_wholeWeight c.1 set)
  rw [hn, nI_clamp (by omega)] at hn1 hD
  unfold fc_share
  rw [hn, nI_clamp (by omega)]
  refine pj_Cn.start ?_
  refine pj_J.go (oX1_share G) 2 rfl trivial ?_
  refine pj_J.cal0 kX1_share_2 (c_X1_wholeWeight (c := c) set hset hwc) ⟨_, _, _, rfl, rfl⟩ pj_le0 pj_le0 pj_le0 ?_
  refine pj_J.go (oX1_share G) 3 rfl trivial ?_
  refine pj_J.ite (fun hc9 => ?_) (fun hc9 => ?_)
  · skip
    refine pj_J.go (oX1_share G) 5 rfl trivial ?_
    refine pj_J.pos (hc9) ?_
    refine pj_J.go (oX1_share G) 5 rfl trivial ?_
    have hm := hn
    unfold fc_many at hm
    rw [if_pos (show (fc_wholeWeight c.1 set) = (0 : Int32) from hc9)] at hm
    have hw2 : fc_wOf (fc_wholeWeight c.1 set) = (2 : Int64) := by unfold fc_wOf; rw [if_pos (show (fc_wholeWeight c.1 set) = (0 : Int32) from hc9)]
    refine pj_J.drop (L' := [some (.ref 2), some (.long x), none, some (.int set), some (.int rule), some (.ref 14), some (.int (fc_wholeWeight c.1 set)), some (.int (nI n)), some (.long (fc_wOf (fc_wholeWeight c.1 set))), none, some (.int (nI 0)), none, none, none, none]) ⟨rfl, rfl, rfl, rfl, rfl, rfl, by first | rfl | rw [hm], by rw [hw2], rfl, trivial⟩ ?_
    refine pj_for (fun k f => pj_J G mX1_share (d + 2) 43 [some (.ref 2), some (.long x), none, some (.int set), some (.int rule), some (.ref 14), some (.int (fc_wholeWeight c.1 set)), some (.int (nI n)), some (.long (fc_wOf (fc_wholeWeight c.1 set))), none, some (.int (nI k)), none, none, none, none] [] (sx_mk (sx_sR (sx_sM c (sx_sL c.1 14 (sx_L c.1 14))) 0 (sx_sL (sx_R c 0) 3 f)) m o D) 0 0 _) fc_shZ (fun _ _ => True) 8 (fun k f hk hi => ⟨hi, fun kk => ly_shZ_0 x set rule _ n hn8 _ 0 f (sx_L c.1 14) hset hw0 k hk (by rw [nI_add1]; exact kk)⟩) 8 0 (sx_L (sx_R c 0) 3) (by simp) trivial (fun _ => lp_shR_0 x set rule _ n hn8 hn1 _ (fc_share0 (sx_L (sx_R c 0) 3)) (sx_L c.1 14) hset hw0 hD ⟨rfl, rfl⟩)
  · skip
    refine pj_J.go (oX1_share G) 7 rfl ⟨by exact hset, trivial⟩ ?_
    refine pj_J.neg (hc9) ?_
    refine pj_J.go (oX1_share G) 5 rfl trivial ?_
    have hm := hn
    unfold fc_many at hm
    rw [if_neg (show ¬ ((fc_wholeWeight c.1 set) = (0 : Int32)) from hc9)] at hm
    have hw2 : fc_wOf (fc_wholeWeight c.1 set) = (fc_wholeWeight c.1 set).toInt64 := by unfold fc_wOf; rw [if_neg (show ¬ ((fc_wholeWeight c.1 set) = (0 : Int32)) from hc9)]
    refine pj_J.drop (L' := [some (.ref 2), some (.long x), none, some (.int set), some (.int rule), some (.ref 14), some (.int (fc_wholeWeight c.1 set)), some (.int (nI n)), some (.long (fc_wOf (fc_wholeWeight c.1 set))), none, some (.int (nI 0)), none, none, none, none]) ⟨rfl, rfl, rfl, rfl, rfl, rfl, by first | rfl | rw [hm], by rw [hw2], rfl, trivial⟩ ?_
    refine pj_for (fun k f => pj_J G mX1_share (d + 2) 43 [some (.ref 2), some (.long x), none, some (.int set), some (.int rule), some (.ref 14), some (.int (fc_wholeWeight c.1 set)), some (.int (nI n)), some (.long (fc_wOf (fc_wholeWeight c.1 set))), none, some (.int (nI k)), none, none, none, none] [] (sx_mk (sx_sR (sx_sM c (sx_sL c.1 14 (sx_L c.1 14))) 0 (sx_sL (sx_R c 0) 3 f)) m o D) 0 0 _) fc_shZ (fun _ _ => True) 8 (fun k f hk hi => ⟨hi, fun kk => ly_shZ_0 x set rule _ n hn8 _ 0 f (sx_L c.1 14) hset hw0 k hk (by rw [nI_add1]; exact kk)⟩) 8 0 (sx_L (sx_R c 0) 3) (by simp) trivial (fun _ => lp_shR_0 x set rule _ n hn8 hn1 _ (fc_share0 (sx_L (sx_R c 0) 3)) (sx_L c.1 14) hset hw0 hD ⟨rfl, rfl⟩)
theorem lz_shZ1_1 {G : pj_G} {d : Nat} {c : sx_C} {m : sx_M} {o : Nat → Int64} {D : pj_H} {Q : pj_O → pj_H → Prop} (x : Int64) (set rule sum : Int32) (n : Nat) (hn8 : n ≤ 8) (w left : Int64) (f g : Nat → Int64) (hset : vp_in set 4) (hw0 : ¬ w = 0) (hr : rule ≤ 1) (kk : pj_J G mX1_share (d + 2) 157 [some (.ref 2), some (.long x), none, some (.int set), some (.int rule), some (.ref 25), some (.int sum), some (.int (nI n)), some (.long w), none, some (.long x), none, some (.int (nI 0)), none, none] [] (sx_mk (sx_sR (sx_sM c (sx_sL c.1 14 g)) 1 (sx_sL (sx_R c 1) 3 f)) m o D) 0 0 Q) : pj_J G mX1_share (d + 2) 43 [some (.ref 2), some (.long x), none, some (.int set), some (.int rule), some (.ref 25), some (.int sum), some (.int (nI n)), some (.long w), none, some (.int (nI 8)), none, none, none, none] [] (sx_mk (sx_sR (sx_sM c (sx_sL c.1 14 g)) 1 (sx_sL (sx_R c 1) 3 f)) m o D) 0 0 Q := by
  refine pj_J.go (oX1_share G) 3 rfl trivial ?_
  refine pj_J.pos (nI_ge_lit (Nat.le_refl _) (by decide)) ?_
  refine pj_J.go (oX1_share G) 5 rfl trivial ?_
  refine pj_J.pos (hr) ?_
  refine pj_J.go (oX1_share G) 2 rfl trivial ?_
  exact pj_J.drp kk ⟨rfl, rfl, rfl, rfl, rfl, rfl, rfl, rfl, rfl, rfl, trivial⟩
theorem lz_shZ2_1 {G : pj_G} {d : Nat} {c : sx_C} {m : sx_M} {o : Nat → Int64} {D : pj_H} {Q : pj_O → pj_H → Prop} (x : Int64) (set rule sum : Int32) (n : Nat) (hn8 : n ≤ 8) (w left : Int64) (f g : Nat → Int64) (hset : vp_in set 4) (hw0 : ¬ w = 0) (hr : ¬ rule ≤ 1) (kk : pj_J G mX1_share (d + 2) 90 [some (.ref 2), some (.long x), none, some (.int set), some (.int rule), some (.ref 25), some (.int sum), some (.int (nI n)), some (.long w), none, some (.long x), none, some (.int (fc_shF (nI n) rule)), some (.int (nI 0)), none] [] (sx_mk (sx_sR (sx_sM c (sx_sL c.1 14 g)) 1 (sx_sL (sx_R c 1) 3 f)) m o D) 0 0 Q) : pj_J G mX1_share (d + 2) 43 [some (.ref 2), some (.long x), none, some (.int set), some (.int rule), some (.ref 25), some (.int sum), some (.int (nI n)), some (.long w), none, some (.int (nI 8)), none, none, none, none] [] (sx_mk (sx_sR (sx_sM c (sx_sL c.1 14 g)) 1 (sx_sL (sx_R c 1) 3 f)) m o D) 0 0 Q := by
  refine pj_J.go (oX1_share G) 3 rfl trivial ?_
  refine pj_J.pos (nI_ge_lit (Nat.le_refl _) (by decide)) ?_
  refine pj_J.go (oX1_share G) 5 rfl trivial ?_
  refine pj_J.neg (hr) ?_
  refine pj_J.go (oX1_share G) 3 rfl trivial ?_
  refine pj_J.ite (fun hc74 => ?_) (fun hc74 => ?_)
  · skip
    refine pj_J.go (oX1_share G) 7 rfl trivial ?_
    unfold fc_shF at kk
    rw [if_pos (show rule = (2 : Int32) from hc74)] at kk
    exact pj_J.drp kk ⟨rfl, rfl, rfl, rfl, rfl, rfl, rfl, rfl, rfl, rfl, rfl, trivial⟩
  · skip
    refine pj_J.go (oX1_share G) 4 rfl trivial ?_
    unfold fc_shF at kk
    rw [if_neg (show ¬ (rule = (2 : Int32)) from hc74)] at kk
    exact pj_J.drp kk ⟨rfl, rfl, rfl, rfl, rfl, rfl, rfl, rfl, rfl, rfl, rfl, trivial⟩
theorem lp_shB_1 {G : pj_G} {d : Nat} {c : sx_C} {m : sx_M} {o : Nat → Int64} {D : pj_H} {Q : pj_O → pj_H → Prop} (x : Int64) (set rule sum : Int32) (n : Nat) (hn8 : n ≤ 8) (w : Int64) (hset : vp_in set 4) (hw0 : ¬ w = 0) (z0 : Int64 × (Nat → Int64) × (Nat → Int64)) (kk : ∀ z, it_up (fc_shB c.1 x set sum w) n 0 z0 = z → pj_J G mX1_share (d + 2) 157 [some (.ref 2), some (.long x), none, some (.int set), some (.int rule), some (.ref 25), some (.int sum), some (.int (nI n)), some (.long w), none, some (.long z.1), none, some (.int (nI n)), none, none] [] (sx_mk (sx_sR (sx_sM c (sx_sL c.1 14 z.2.2)) 1 (sx_sL (sx_R c 1) 3 z.2.1)) m o D) 0 0 Q) : pj_J G mX1_share (d + 2) 157 [some (.ref 2), some (.long x), none, some (.int set), some (.int rule), some (.ref 25), some (.int sum), some (.int (nI n)), some (.long w), none, some (.long z0.1), none, some (.int (nI 0)), none, none] [] (sx_mk (sx_sR (sx_sM c (sx_sL c.1 14 z0.2.2)) 1 (sx_sL (sx_R c 1) 3 z0.2.1)) m o D) 0 0 Q := by
  refine pj_for (σ := Int64 × (Nat → Int64) × (Nat → Int64)) (fun (k : Nat) (z : Int64 × (Nat → Int64) × (Nat → Int64)) => pj_J G mX1_share (d + 2) 157 [some (.ref 2), some (.long x), none, some (.int set), some (.int rule), some (.ref 25), some (.int sum), some (.int (nI n)), some (.long w), none, some (.long z.1), none, some (.int (nI k)), none, none] [] (sx_mk (sx_sR (sx_sM c (sx_sL c.1 14 z.2.2)) 1 (sx_sL (sx_R c 1) 3 z.2.1)) m o D) 0 0 Q) (fc_shB c.1 x set sum w) (fun _ _ => True) n (fun k z hk hi => ?_) n 0 z0 (by simp) trivial (fun _ => kk (it_up (fc_shB c.1 x set sum w) n 0 z0) rfl)
  obtain ⟨l, f, g⟩ := z
  exact ⟨trivial, fun kk => ly_shB_1 x set rule sum n hn8 w l f g hset hw0 k hk (by rw [nI_add1]; exact kk)⟩
theorem lp_shA_1 {G : pj_G} {d : Nat} {c : sx_C} {m : sx_M} {o : Nat → Int64} {D : pj_H} {Q : pj_O → pj_H → Prop} (x : Int64) (set rule sum : Int32) (n : Nat) (hn8 : n ≤ 8) (w : Int64) (hset : vp_in set 4) (hw0 : ¬ w = 0) (fr : Int32) (hfr : vp_in fr 8) (g : Nat → Int64) (z0 : Int64 × (Nat → Int64)) (kk : ∀ z, it_up (fc_shA c.1 x set sum w fr) n 0 z0 = z → pj_J G mX1_share (d + 2) 90 [some (.ref 2), some (.long x), none, some (.int set), some (.int rule), some (.ref 25), some (.int sum), some (.int (nI n)), some (.long w), none, some (.long z.1), none, some (.int fr), some (.int (nI n)), none] [] (sx_mk (sx_sR (sx_sM c (sx_sL c.1 14 g)) 1 (sx_sL (sx_R c 1) 3 z.2)) m o D) 0 0 Q) : pj_J G mX1_share (d + 2) 90 [some (.ref 2), some (.long x), none, some (.int set), some (.int rule), some (.ref 25), some (.int sum), some (.int (nI n)), some (.long w), none, some (.long z0.1), none, some (.int fr), some (.int (nI 0)), none] [] (sx_mk (sx_sR (sx_sM c (sx_sL c.1 14 g)) 1 (sx_sL (sx_R c 1) 3 z0.2)) m o D) 0 0 Q := by
  refine pj_for (σ := Int64 × (Nat → Int64)) (fun (k : Nat) (z : Int64 × (Nat → Int64)) => pj_J G mX1_share (d + 2) 90 [some (.ref 2), some (.long x), none, some (.int set), some (.int rule), some (.ref 25), some (.int sum), some (.int (nI n)), some (.long w), none, some (.long z.1), none, some (.int fr), some (.int (nI k)), none] [] (sx_mk (sx_sR (sx_sM c (sx_sL c.1 14 g)) 1 (sx_sL (sx_R c 1) 3 z.2)) m o D) 0 0 Q) (fc_shA c.1 x set sum w fr) (fun _ _ => True) n (fun k z hk hi => ?_) n 0 z0 (by simp) trivial (fun _ => kk (it_up (fc_shA c.1 x set sum w fr) n 0 z0) rfl)
  obtain ⟨l, f⟩ := z
  exact ⟨trivial, fun kk => ly_shA_1 x set rule sum n hn8 w l f g hset hw0 fr hfr k hk (by rw [nI_add1]; exact kk)⟩
theorem lp_shR_1 {G : pj_G} {d : Nat} {c : sx_C} {m : sx_M} {o : Nat → Int64} {D : pj_H} {Q : pj_O → pj_H → Prop} (x : Int64) (set rule sum : Int32) (n : Nat) (hn8 : n ≤ 8) (hn1 : 1 ≤ n) (w : Int64) (f g : Nat → Int64) (hset : vp_in set 4) (hw0 : ¬ w = 0) (hD : ¬ rule ≤ 1 ∨ rule = 1 ∨ (fc_shD n 8 (it_up (fc_shB c.1 x set sum w) n 0 (x, f, g))).1 ≤ 0) (q : Q (.inl none) (sx_mk (sx_sR (sx_sM c (sx_sL c.1 14 ((fc_shareR c.1 x set rule sum n w f g).2))) 1 (sx_sL (sx_R c 1) 3 ((fc_shareR c.1 x set rule sum n w f g).1))) m o D)) : pj_J G mX1_share (d + 2) 43 [some (.ref 2), some (.long x), none, some (.int set), some (.int rule), some (.ref 25), some (.int sum), some (.int (nI n)), some (.long w), none, some (.int (nI 8)), none, none, none, none] [] (sx_mk (sx_sR (sx_sM c (sx_sL c.1 14 g)) 1 (sx_sL (sx_R c 1) 3 f)) m o D) 0 0 Q := by
  unfold fc_shareR at q
  by_cases hr : rule ≤ 1
  · rw [if_pos hr] at q
    refine lz_shZ1_1 x set rule sum n hn8 w x f g hset hw0 hr ?_
    refine lp_shB_1 x set rule sum n hn8 w hset hw0 (x, f, g) (fun z hz => ?_)
    rw [hz] at q hD
    obtain ⟨l, f2, g2⟩ := z
    by_cases h1 : rule = 1
    · rw [if_pos h1] at q
      exact lz_shB1_1 x set rule sum n hn8 w l f2 g2 hset hw0 h1 (lp_shC_1 x set rule sum n hn8 w g2 hset hw0 n 0 l f2 (by omega) q)
    · rw [if_neg h1] at q
      exact lz_shB0_1 x set rule sum n hn8 w l f2 g2 hset hw0 h1 (lp_shD_1 x set rule sum n hn8 hn1 w hset hw0 8 l f2 g2 (by rcases hD with h | h | h; exact absurd hr h; exact absurd h h1; exact h) q)
  · rw [if_neg hr] at q
    refine lz_shZ2_1 x set rule sum n hn8 w x f g hset hw0 hr ?_
    refine lp_shA_1 x set rule sum n hn8 w hset hw0 (fc_shF (nI n) rule) (fc_shF_vp hn1 hn8) g (x, f) (fun z hz => ?_)
    rw [hz] at q
    obtain ⟨l, f2⟩ := z
    exact lz_shA_1 x set rule sum n hn8 w l f2 g hset hw0 _ (fc_shF_vp hn1 hn8) q
theorem c_X1_share_1 {G : pj_G} {d : Nat} {c : sx_C} {m : sx_M} {o : Nat → Int64} {D : pj_H} (x : Int64) (set rule : Int32) (hO : fc_shOk c.1 x set rule (sx_L (sx_R c 1) 3)) : pj_Rt G mX1_share (d + 2) [.ref 2, .long x, .int set, .int rule, .ref 25] (sx_mk c m o D) 0 0 none (sx_mk (sx_sR (sx_sM c (sx_sL c.1 14 ((fc_share c.1 x set rule (sx_L (sx_R c 1) 3)).2))) 1 (sx_sL (sx_R c 1) 3 ((fc_share c.1 x set rule (sx_L (sx_R c 1) 3)).1))) m o D) := by
  obtain ⟨hset, hwc, hw0, hn1, hD⟩ := hO
  obtain ⟨n, hn8, hn⟩ := fc_many_vp hwc (fc_wholeWeight c.1 set)
  rw [hn, nI_clamp (by omega)] at hn1 hD
  unfold fc_share
  rw [hn, nI_clamp (by omega)]
  refine pj_Cn.start ?_
  refine pj_J.go (oX1_share G) 2 rfl trivial ?_
  refine pj_J.cal0 kX1_share_2 (c_X1_wholeWeight (c := c) set hset hwc) ⟨_, _, _, rfl, rfl⟩ pj_le0 pj_le0 pj_le0 ?_
  refine pj_J.go (oX1_share G) 3 rfl trivial ?_
  refine pj_J.ite (fun hc9 => ?_) (fun hc9 => ?_)
  · skip
    refine pj_J.go (oX1_share G) 5 rfl trivial ?_
    refine pj_J.pos (hc9) ?_
    refine pj_J.go (oX1_share G) 5 rfl trivial ?_
    have hm := hn
    unfold fc_many at hm
    rw [if_pos (show (fc_wholeWeight c.1 set) = (0 : Int32) from hc9)] at hm
    have hw2 : fc_wOf (fc_wholeWeight c.1 set) = (2 : Int64) := by unfold fc_wOf; rw [if_pos (show (fc_wholeWeight c.1 set) = (0 : Int32) from hc9)]
    refine pj_J.drop (L' := [some (.ref 2), some (.long x), none, some (.int set), some (.int rule), some (.ref 25), some (.int (fc_wholeWeight c.1 set)), some (.int (nI n)), some (.long (fc_wOf (fc_wholeWeight c.1 set))), none, some (.int (nI 0)), none, none, none, none]) ⟨rfl, rfl, rfl, rfl, rfl, rfl, by first | rfl | rw [hm], by rw [hw2], rfl, trivial⟩ ?_
    refine pj_for (fun k f => pj_J G mX1_share (d + 2) 43 [some (.ref 2), some (.long x), none, some (.int set), some (.int rule), some (.ref 25), some (.int (fc_wholeWeight c.1 set)), some (.int (nI n)), some (.long (fc_wOf (fc_wholeWeight c.1 set))), none, some (.int (nI k)), none, none, none, none] [] (sx_mk (sx_sR (sx_sM c (sx_sL c.1 14 (sx_L c.1 14))) 1 (sx_sL (sx_R c 1) 3 f)) m o D) 0 0 _) fc_shZ (fun _ _ => True) 8 (fun k f hk hi => ⟨hi, fun kk => ly_shZ_1 x set rule _ n hn8 _ 0 f (sx_L c.1 14) hset hw0 k hk (by rw [nI_add1]; exact kk)⟩) 8 0 (sx_L (sx_R c 1) 3) (by simp) trivial (fun _ => lp_shR_1 x set rule _ n hn8 hn1 _ (fc_share0 (sx_L (sx_R c 1) 3)) (sx_L c.1 14) hset hw0 hD ⟨rfl, rfl⟩)
  · skip
    refine pj_J.go (oX1_share G) 7 rfl ⟨by exact hset, trivial⟩ ?_
    refine pj_J.neg (hc9) ?_
    refine pj_J.go (oX1_share G) 5 rfl trivial ?_
    have hm := hn
    unfold fc_many at hm
    rw [if_neg (show ¬ ((fc_wholeWeight c.1 set) = (0 : Int32)) from hc9)] at hm
    have hw2 : fc_wOf (fc_wholeWeight c.1 set) = (fc_wholeWeight c.1 set).toInt64 := by unfold fc_wOf; rw [if_neg (show ¬ ((fc_wholeWeight c.1 set) = (0 : Int32)) from hc9)]
    refine pj_J.drop (L' := [some (.ref 2), some (.long x), none, some (.int set), some (.int rule), some (.ref 25), some (.int (fc_wholeWeight c.1 set)), some (.int (nI n)), some (.long (fc_wOf (fc_wholeWeight c.1 set))), none, some (.int (nI 0)), none, none, none, none]) ⟨rfl, rfl, rfl, rfl, rfl, rfl, by first | rfl | rw [hm], by rw [hw2], rfl, trivial⟩ ?_
    refine pj_for (fun k f => pj_J G mX1_share (d + 2) 43 [some (.ref 2), some (.long x), none, some (.int set), some (.int rule), some (.ref 25), some (.int (fc_wholeWeight c.1 set)), some (.int (nI n)), some (.long (fc_wOf (fc_wholeWeight c.1 set))), none, some (.int (nI k)), none, none, none, none] [] (sx_mk (sx_sR (sx_sM c (sx_sL c.1 14 (sx_L c.1 14))) 1 (sx_sL (sx_R c 1) 3 f)) m o D) 0 0 _) fc_shZ (fun _ _ => True) 8 (fun k f hk hi => ⟨hi, fun kk => ly_shZ_1 x set rule _ n hn8 _ 0 f (sx_L c.1 14) hset hw0 k hk (by rw [nI_add1]; exact kk)⟩) 8 0 (sx_L (sx_R c 1) 3) (by simp) trivial (fun _ => lp_shR_1 x set rule _ n hn8 hn1 _ (fc_share0 (sx_L (sx_R c 1) 3)) (sx_L c.1 14) hset hw0 hD ⟨rfl, rfl⟩)
theorem lz_shZ1_2 {G : pj_G} {d : Nat} {c : sx_C} {m : sx_M} {o : Nat → Int64} {D : pj_H} {Q : pj_O → pj_H → Prop} (x : Int64) (set rule sum : Int32) (n : Nat) (hn8 : n ≤ 8) (w left : Int64) (f g : Nat → Int64) (hset : vp_in set 4) (hw0 : ¬ w = 0) (hr : rule ≤ 1) (kk : pj_J G mX1_share (d + 2) 157 [some (.ref 2), some (.long x), none, some (.int set), some (.int rule), some (.ref 36), some (.int sum), some (.int (nI n)), some (.long w), none, some (.long x), none, some (.int (nI 0)), none, none] [] (sx_mk (sx_sR (sx_sM c (sx_sL c.1 14 g)) 2 (sx_sL (sx_R c 2) 3 f)) m o D) 0 0 Q) : pj_J G mX1_share (d + 2) 43 [some (.ref 2), some (.long x), none, some (.int set), some (.int rule), some (.ref 36), some (.int sum), some (.int (nI n)), some (.long w), none, some (.int (nI 8)), none, none, none, none] [] (sx_mk (sx_sR (sx_sM c (sx_sL c.1 14 g)) 2 (sx_sL (sx_R c 2) 3 f)) m o D) 0 0 Q := by
  refine pj_J.go (oX1_share G) 3 rfl trivial ?_
  refine pj_J.pos (nI_ge_lit (Nat.le_refl _) (by decide)) ?_
  refine pj_J.go (oX1_share G) 5 rfl trivial ?_
  refine pj_J.pos (hr) ?_
  refine pj_J.go (oX1_share G) 2 rfl trivial ?_
  exact pj_J.drp kk ⟨rfl, rfl, rfl, rfl, rfl, rfl, rfl, rfl, rfl, rfl, trivial⟩
theorem lz_shZ2_2 {G : pj_G} {d : Nat} {c : sx_C} {m : sx_M} {o : Nat → Int64} {D : pj_H} {Q : pj_O → pj_H → Prop} (x : Int64) (set rule sum : Int32) (n : Nat) (hn8 : n ≤ 8) (w left : Int64) (f g : Nat → Int64) (hset : vp_in set 4) (hw0 : ¬ w = 0) (hr : ¬ rule ≤ 1) (kk : pj_J G mX1_share (d + 2) 90 [some (.ref 2), some (.long x), none, some (.int set), some (.int rule), some (.ref 36), some (.int sum), some (.int (nI n)), some (.long w), none, some (.long x), none, some (.int (fc_shF (nI n) rule)), some (.int (nI 0)), none] [] (sx_mk (sx_sR (sx_sM c (sx_sL c.1 14 g)) 2 (sx_sL (sx_R c 2) 3 f)) m o D) 0 0 Q) : pj_J G mX1_share (d + 2) 43 [some (.ref 2), some (.long x), none, some (.int set), some (.int rule), some (.ref 36), some (.int sum), some (.int (nI n)), some (.long w), none, some (.int (nI 8)), none, none, none, none] [] (sx_mk (sx_sR (sx_sM c (sx_sL c.1 14 g)) 2 (sx_sL (sx_R c 2) 3 f)) m o D) 0 0 Q := by
  refine pj_J.go (oX1_share G) 3 rfl trivial ?_
  refine pj_J.pos (nI_ge_lit (Nat.le_refl _) (by decide)) ?_
  refine pj_J.go (oX1_share G) 5 rfl trivial ?_
  refine pj_J.neg (hr) ?_
  refine pj_J.go (oX1_share G) 3 rfl trivial ?_
  refine pj_J.ite (fun hc74 => ?_) (fun hc74 => ?_)
  · skip
    refine pj_J.go (oX1_share G) 7 rfl trivial ?_
    unfold fc_shF at kk
    rw [if_pos (show rule = (2 : Int32) from hc74)] at kk
    exact pj_J.drp kk ⟨rfl, rfl, rfl, rfl, rfl, rfl, rfl, rfl, rfl, rfl, rfl, trivial⟩
  · skip
    refine pj_J.go (oX1_share G) 4 rfl trivial ?_
    unfold fc_shF at kk
    rw [if_neg (show ¬ (rule = (2 : Int32)) from hc74)] at kk
    exact pj_J.drp kk ⟨rfl, rfl, rfl, rfl, rfl, rfl, rfl, rfl, rfl, rfl, rfl, trivial⟩
theorem lp_shB_2 {G : pj_G} {d : Nat} {c : sx_C} {m : sx_M} {o : Nat → Int64} {D : pj_H} {Q : pj_O → pj_H → Prop} (x : Int64) (set rule sum : Int32) (n : Nat) (hn8 : n ≤ 8) (w : Int64) (hset : vp_in set 4) (hw0 : ¬ w = 0) (z0 : Int64 × (Nat → Int64) × (Nat → Int64)) (kk : ∀ z, it_up (fc_shB c.1 x set sum w) n 0 z0 = z → pj_J G mX1_share (d + 2) 157 [some (.ref 2), some (.long x), none, some (.int set), some (.int rule), some (.ref 36), some (.int sum), some (.int (nI n)), some (.long w), none, some (.long z.1), none, some (.int (nI n)), none, none] [] (sx_mk (sx_sR (sx_sM c (sx_sL c.1 14 z.2.2)) 2 (sx_sL (sx_R c 2) 3 z.2.1)) m o D) 0 0 Q) : pj_J G mX1_share (d + 2) 157 [some (.ref 2), some (.long x), none, some (.int set), some (.int rule), some (.ref 36), some (.int sum), some (.int (nI n)), some (.long w), none, some (.long z0.1), none, some (.int (nI 0)), none, none] [] (sx_mk (sx_sR (sx_sM c (sx_sL c.1 14 z0.2.2)) 2 (sx_sL (sx_R c 2) 3 z0.2.1)) m o D) 0 0 Q := by
  refine pj_for (σ := Int64 × (Nat → Int64) × (Nat → Int64)) (fun (k : Nat) (z : Int64 × (Nat → Int64) × (Nat → Int64)) => pj_J G mX1_share (d + 2) 157 [some (.ref 2), some (.long x), none, some (.int set), some (.int rule), some (.ref 36), some (.int sum), some (.int (nI n)), some (.long w), none, some (.long z.1), none, some (.int (nI k)), none, none] [] (sx_mk (sx_sR (sx_sM c (sx_sL c.1 14 z.2.2)) 2 (sx_sL (sx_R c 2) 3 z.2.1)) m o D) 0 0 Q) (fc_shB c.1 x set sum w) (fun _ _ => True) n (fun k z hk hi => ?_) n 0 z0 (by simp) trivial (fun _ => kk (it_up (fc_shB c.1 x set sum w) n 0 z0) rfl)
  obtain ⟨l, f, g⟩ := z
  exact ⟨trivial, fun kk => ly_shB_2 x set rule sum n hn8 w l f g hset hw0 k hk (by rw [nI_add1]; exact kk)⟩
theorem lp_shA_2 {G : pj_G} {d : Nat} {c : sx_C} {m : sx_M} {o : Nat → Int64} {D : pj_H} {Q : pj_O → pj_H → Prop} (x : Int64) (set rule sum : Int32) (n : Nat) (hn8 : n ≤ 8) (w : Int64) (hset : vp_in set 4) (hw0 : ¬ w = 0) (fr : Int32) (hfr : vp_in fr 8) (g : Nat → Int64) (z0 : Int64 × (Nat → Int64)) (kk : ∀ z, it_up (fc_shA c.1 x set sum w fr) n 0 z0 = z → pj_J G mX1_share (d + 2) 90 [some (.ref 2), some (.long x), none, some (.int set), some (.int rule), some (.ref 36), some (.int sum), some (.int (nI n)), some (.long w), none, some (.long z.1), none, some (.int fr), some (.int (nI n)), none] [] (sx_mk (sx_sR (sx_sM c (sx_sL c.1 14 g)) 2 (sx_sL (sx_R c 2) 3 z.2)) m o D) 0 0 Q) : pj_J G mX1_share (d + 2) 90 [some (.ref 2), some (.long x), none, some (.int set), some (.int rule), some (.ref 36), some (.int sum), some (.int (nI n)), some (.long w), none, some (.long z0.1), none, some (.int fr), some (.int (nI 0)), none] [] (sx_mk (sx_sR (sx_sM c (sx_sL c.1 14 g)) 2 (sx_sL (sx_R c 2) 3 z0.2)) m o D) 0 0 Q := by
  refine pj_for (σ := Int64 × (Nat → Int64)) (fun (k : Nat) (z : Int64 × (Nat → Int64)) => pj_J G mX1_share (d + 2) 90 [some (.ref 2), some (.long x), none, some (.int set), some (.int rule), some (.ref 36), some (.int sum), some (.int (nI n)), some (.long w), none, some (.long z.1), none, some (.int fr), some (.int (nI k)), none] [] (sx_mk (sx_sR (sx_sM c (sx_sL c.1 14 g)) 2 (sx_sL (sx_R c 2) 3 z.2)) m o D) 0 0 Q) (fc_shA c.1 x set sum w fr) (fun _ _ => True) n (fun k z hk hi => ?_) n 0 z0 (by simp) trivial (fun _ => kk (it_up (fc_shA c.1 x set sum w fr) n 0 z0) rfl)
  obtain ⟨l, f⟩ := z
  exact ⟨trivial, fun kk => ly_shA_2 x set rule sum n hn8 w l f g hset hw0 fr hfr k hk (by rw [nI_add1]; exact kk)⟩
theorem lp_shR_2 {G : pj_G} {d : Nat} {c : sx_C} {m : sx_M} {o : Nat → Int64} {D : pj_H} {Q : pj_O → pj_H → Prop} (x : Int64) (set rule sum : Int32) (n : Nat) (hn8 : n ≤ 8) (hn1 : 1 ≤ n) (w : Int64) (f g : Nat → Int64) (hset : vp_in set 4) (hw0 : ¬ w = 0) (hD : ¬ rule ≤ 1 ∨ rule = 1 ∨ (fc_shD n 8 (it_up (fc_shB c.1 x set sum w) n 0 (x, f, g))).1 ≤ 0) (q : Q (.inl none) (sx_mk (sx_sR (sx_sM c (sx_sL c.1 14 ((fc_shareR c.1 x set rule sum n w f g).2))) 2 (sx_sL (sx_R c 2) 3 ((fc_shareR c.1 x set rule sum n w f g).1))) m o D)) : pj_J G mX1_share (d + 2) 43 [some (.ref 2), some (.long x), none, some (.int set), some (.int rule), some (.ref 36), some (.int sum), some (.int (nI n)), some (.long w), none, some (.int (nI 8)), none, none, none, none] [] (sx_mk (sx_sR (sx_sM c (sx_sL c.1 14 g)) 2 (sx_sL (sx_R c 2) 3 f)) m o D) 0 0 Q := by
  unfold fc_shareR at q
  by_cases hr : rule ≤ 1
  · rw [if_pos hr] at q
    refine lz_shZ1_2 x set rule sum n hn8 w x f g hset hw0 hr ?_
    refine lp_shB_2 x set rule sum n hn8 w hset hw0 (x, f, g) (fun z hz => ?_)
    rw [hz] at q hD
    obtain ⟨l, f2, g2⟩ := z
    by_cases h1 : rule = 1
    · rw [if_pos h1] at q
      exact lz_shB1_2 x set rule sum n hn8 w l f2 g2 hset hw0 h1 (lp_shC_2 x set rule sum n hn8 w g2 hset hw0 n 0 l f2 (by omega) q)
    · rw [if_neg h1] at q
      exact lz_shB0_2 x set rule sum n hn8 w l f2 g2 hset hw0 h1 (lp_shD_2 x set rule sum n hn8 hn1 w hset hw0 8 l f2 g2 (by rcases hD with h | h | h; exact absurd hr h; exact absurd h h1; exact h) q)
  · rw [if_neg hr] at q
    refine lz_shZ2_2 x set rule sum n hn8 w x f g hset hw0 hr ?_
    refine lp_shA_2 x set rule sum n hn8 w hset hw0 (fc_shF (nI n) rule) (fc_shF_vp hn1 hn8) g (x, f) (fun z hz => ?_)
    rw [hz] at q
    obtain ⟨l, f2⟩ := z
    exact lz_shA_2 x set rule sum n hn8 w l f2 g hset hw0 _ (fc_shF_vp hn1 hn8) q
theorem c_X1_share_2 {G : pj_G} {d : Nat} {c : sx_C} {m : sx_M} {o : Nat → Int64} {D : pj_H} (x : Int64) (set rule : Int32) (hO : fc_shOk c.1 x set rule (sx_L (sx_R c 2) 3)) : pj_Rt G mX1_share (d + 2) [.ref 2, .long x, .int set, .int rule, .ref 36] (sx_mk c m o D) 0 0 none (sx_mk (sx_sR (sx_sM c (sx_sL c.1 14 ((fc_share c.1 x set rule (sx_L (sx_R c 2) 3)).2))) 2 (sx_sL (sx_R c 2) 3 ((fc_share c.1 x set rule (sx_L (sx_R c 2) 3)).1))) m o D) := by
  obtain ⟨hset, hwc, hw0, hn1, hD⟩ := hO
  obtain ⟨n, hn8, hn⟩ := fc_many_vp hwc (fc_wholeWeight c.1 set)
  rw [hn, nI_clamp (by omega)] at hn1 hD
  unfold fc_share
  rw [hn, nI_clamp (by omega)]
  refine pj_Cn.start ?_
  refine pj_J.go (oX1_share G) 2 rfl trivial ?_
  refine pj_J.cal0 kX1_share_2 (c_X1_wholeWeight (c := c) set hset hwc) ⟨_, _, _, rfl, rfl⟩ pj_le0 pj_le0 pj_le0 ?_
  refine pj_J.go (oX1_share G) 3 rfl trivial ?_
  refine pj_J.ite (fun hc9 => ?_) (fun hc9 => ?_)
  · skip
    refine pj_J.go (oX1_share G) 5 rfl trivial ?_
    refine pj_J.pos (hc9) ?_
    refine pj_J.go (oX1_share G) 5 rfl trivial ?_
    have hm := hn
    unfold fc_many at hm
    rw [if_pos (show (fc_wholeWeight c.1 set) = (0 : Int32) from hc9)] at hm
    have hw2 : fc_wOf (fc_wholeWeight c.1 set) = (2 : Int64) := by unfold fc_wOf; rw [if_pos (show (fc_wholeWeight c.1 set) = (0 : Int32) from hc9)]
    refine pj_J.drop (L' := [some (.ref 2), some (.long x), none, some (.int set), some (.int rule), some (.ref 36), some (.int (fc_wholeWeight c.1 set)), some (.int (nI n)), some (.long (fc_wOf (fc_wholeWeight c.1 set))), none, some (.int (nI 0)), none, none, none, none]) ⟨rfl, rfl, rfl, rfl, rfl, rfl, by first | rfl | rw [hm], by rw [hw2], rfl, trivial⟩ ?_
    refine pj_for (fun k f => pj_J G mX1_share (d + 2) 43 [some (.ref 2), some (.long x), none, some (.int set), some (.int rule), some (.ref 36), some (.int (fc_wholeWeight c.1 set)), some (.int (nI n)), some (.long (fc_wOf (fc_wholeWeight c.1 set))), none, some (.int (nI k)), none, none, none, none] [] (sx_mk (sx_sR (sx_sM c (sx_sL c.1 14 (sx_L c.1 14))) 2 (sx_sL (sx_R c 2) 3 f)) m o D) 0 0 _) fc_shZ (fun _ _ => True) 8 (fun k f hk hi => ⟨hi, fun kk => ly_shZ_2 x set rule _ n hn8 _ 0 f (sx_L c.1 14) hset hw0 k hk (by rw [nI_add1]; exact kk)⟩) 8 0 (sx_L (sx_R c 2) 3) (by simp) trivial (fun _ => lp_shR_2 x set rule _ n hn8 hn1 _ (fc_share0 (sx_L (sx_R c 2) 3)) (sx_L c.1 14) hset hw0 hD ⟨rfl, rfl⟩)
  · skip
    refine pj_J.go (oX1_share G) 7 rfl ⟨by exact hset, trivial⟩ ?_
    refine pj_J.neg (hc9) ?_
    refine pj_J.go (oX1_share G) 5 rfl trivial ?_
    have hm := hn
    unfold fc_many at hm
    rw [if_neg (show ¬ ((fc_wholeWeight c.1 set) = (0 : Int32)) from hc9)] at hm
    have hw2 : fc_wOf (fc_wholeWeight c.1 set) = (fc_wholeWeight c.1 set).toInt64 := by unfold fc_wOf; rw [if_neg (show ¬ ((fc_wholeWeight c.1 set) = (0 : Int32)) from hc9)]
    refine pj_J.drop (L' := [some (.ref 2), some (.long x), none, some (.int set), some (.int rule), some (.ref 36), some (.int (fc_wholeWeight c.1 set)), some (.int (nI n)), some (.long (fc_wOf (fc_wholeWeight c.1 set))), none, some (.int (nI 0)), none, none, none, none]) ⟨rfl, rfl, rfl, rfl, rfl, rfl, by first | rfl | rw [hm], by rw [hw2], rfl, trivial⟩ ?_
    refine pj_for (fun k f => pj_J G mX1_share (d + 2) 43 [some (.ref 2), some (.long x), none, some (.int set), some (.int rule), some (.ref 36), some (.int (fc_wholeWeight c.1 set)), some (.int (nI n)), some (.long (fc_wOf (fc_wholeWeight c.1 set))), none, some (.int (nI k)), none, none, none, none] [] (sx_mk (sx_sR (sx_sM c (sx_sL c.1 14 (sx_L c.1 14))) 2 (sx_sL (sx_R c 2) 3 f)) m o D) 0 0 _) fc_shZ (fun _ _ => True) 8 (fun k f hk hi => ⟨hi, fun kk => ly_shZ_2 x set rule _ n hn8 _ 0 f (sx_L c.1 14) hset hw0 k hk (by rw [nI_add1]; exact kk)⟩) 8 0 (sx_L (sx_R c 2) 3) (by simp) trivial (fun _ => lp_shR_2 x set rule _ n hn8 hn1 _ (fc_share0 (sx_L (sx_R c 2) 3)) (sx_L c.1 14) hset hw0 hD ⟨rfl, rfl⟩)
theorem lz_shZ1_3 {G : pj_G} {d : Nat} {c : sx_C} {m : sx_M} {o : Nat → Int64} {D : pj_H} {Q : pj_O → pj_H → Prop} (x : Int64) (set rule sum : Int32) (n : Nat) (hn8 : n ≤ 8) (w left : Int64) (f g : Nat → Int64) (hset : vp_in set 4) (hw0 : ¬ w = 0) (hr : rule ≤ 1) (kk : pj_J G mX1_share (d + 2) 157 [some (.ref 2), some (.long x), none, some (.int set), some (.int rule), some (.ref 43), some (.int sum), some (.int (nI n)), some (.long w), none, some (.long x), none, some (.int (nI 0)), none, none] [] (sx_mk (sx_sM c (sx_sL (sx_sL c.1 14 g) 13 f)) m o D) 0 0 Q) : pj_J G mX1_share (d + 2) 43 [some (.ref 2), some (.long x), none, some (.int set), some (.int rule), some (.ref 43), some (.int sum), some (.int (nI n)), some (.long w), none, some (.int (nI 8)), none, none, none, none] [] (sx_mk (sx_sM c (sx_sL (sx_sL c.1 14 g) 13 f)) m o D) 0 0 Q := by
  refine pj_J.go (oX1_share G) 3 rfl trivial ?_
  refine pj_J.pos (nI_ge_lit (Nat.le_refl _) (by decide)) ?_
  refine pj_J.go (oX1_share G) 5 rfl trivial ?_
  refine pj_J.pos (hr) ?_
  refine pj_J.go (oX1_share G) 2 rfl trivial ?_
  exact pj_J.drp kk ⟨rfl, rfl, rfl, rfl, rfl, rfl, rfl, rfl, rfl, rfl, trivial⟩
theorem lz_shZ2_3 {G : pj_G} {d : Nat} {c : sx_C} {m : sx_M} {o : Nat → Int64} {D : pj_H} {Q : pj_O → pj_H → Prop} (x : Int64) (set rule sum : Int32) (n : Nat) (hn8 : n ≤ 8) (w left : Int64) (f g : Nat → Int64) (hset : vp_in set 4) (hw0 : ¬ w = 0) (hr : ¬ rule ≤ 1) (kk : pj_J G mX1_share (d + 2) 90 [some (.ref 2), some (.long x), none, some (.int set), some (.int rule), some (.ref 43), some (.int sum), some (.int (nI n)), some (.long w), none, some (.long x), none, some (.int (fc_shF (nI n) rule)), some (.int (nI 0)), none] [] (sx_mk (sx_sM c (sx_sL (sx_sL c.1 14 g) 13 f)) m o D) 0 0 Q) : pj_J G mX1_share (d + 2) 43 [some (.ref 2), some (.long x), none, some (.int set), some (.int rule), some (.ref 43), some (.int sum), some (.int (nI n)), some (.long w), none, some (.int (nI 8)), none, none, none, none] [] (sx_mk (sx_sM c (sx_sL (sx_sL c.1 14 g) 13 f)) m o D) 0 0 Q := by
  refine pj_J.go (oX1_share G) 3 rfl trivial ?_
  refine pj_J.pos (nI_ge_lit (Nat.le_refl _) (by decide)) ?_
  refine pj_J.go (oX1_share G) 5 rfl trivial ?_
  refine pj_J.neg (hr) ?_
  refine pj_J.go (oX1_share G) 3 rfl trivial ?_
  refine pj_J.ite (fun hc74 => ?_) (fun hc74 => ?_)
  · skip
    refine pj_J.go (oX1_share G) 7 rfl trivial ?_
    unfold fc_shF at kk
    rw [if_pos (show rule = (2 : Int32) from hc74)] at kk
    exact pj_J.drp kk ⟨rfl, rfl, rfl, rfl, rfl, rfl, rfl, rfl, rfl, rfl, rfl, trivial⟩
  · skip
    refine pj_J.go (oX1_share G) 4 rfl trivial ?_
    unfold fc_shF at kk
    rw [if_neg (show ¬ (rule = (2 : Int32)) from hc74)] at kk
    exact pj_J.drp kk ⟨rfl, rfl, rfl, rfl, rfl, rfl, rfl, rfl, rfl, rfl, rfl, trivial⟩
theorem lp_shB_3 {G : pj_G} {d : Nat} {c : sx_C} {m : sx_M} {o : Nat → Int64} {D : pj_H} {Q : pj_O → pj_H → Prop} (x : Int64) (set rule sum : Int32) (n : Nat) (hn8 : n ≤ 8) (w : Int64) (hset : vp_in set 4) (hw0 : ¬ w = 0) (z0 : Int64 × (Nat → Int64) × (Nat → Int64)) (kk : ∀ z, it_up (fc_shB c.1 x set sum w) n 0 z0 = z → pj_J G mX1_share (d + 2) 157 [some (.ref 2), some (.long x), none, some (.int set), some (.int rule), some (.ref 43), some (.int sum), some (.int (nI n)), some (.long w), none, some (.long z.1), none, some (.int (nI n)), none, none] [] (sx_mk (sx_sM c (sx_sL (sx_sL c.1 14 z.2.2) 13 z.2.1)) m o D) 0 0 Q) : pj_J G mX1_share (d + 2) 157 [some (.ref 2), some (.long x), none, some (.int set), some (.int rule), some (.ref 43), some (.int sum), some (.int (nI n)), some (.long w), none, some (.long z0.1), none, some (.int (nI 0)), none, none] [] (sx_mk (sx_sM c (sx_sL (sx_sL c.1 14 z0.2.2) 13 z0.2.1)) m o D) 0 0 Q := by
  refine pj_for (σ := Int64 × (Nat → Int64) × (Nat → Int64)) (fun (k : Nat) (z : Int64 × (Nat → Int64) × (Nat → Int64)) => pj_J G mX1_share (d + 2) 157 [some (.ref 2), some (.long x), none, some (.int set), some (.int rule), some (.ref 43), some (.int sum), some (.int (nI n)), some (.long w), none, some (.long z.1), none, some (.int (nI k)), none, none] [] (sx_mk (sx_sM c (sx_sL (sx_sL c.1 14 z.2.2) 13 z.2.1)) m o D) 0 0 Q) (fc_shB c.1 x set sum w) (fun _ _ => True) n (fun k z hk hi => ?_) n 0 z0 (by simp) trivial (fun _ => kk (it_up (fc_shB c.1 x set sum w) n 0 z0) rfl)
  obtain ⟨l, f, g⟩ := z
  exact ⟨trivial, fun kk => ly_shB_3 x set rule sum n hn8 w l f g hset hw0 k hk (by rw [nI_add1]; exact kk)⟩
theorem lp_shA_3 {G : pj_G} {d : Nat} {c : sx_C} {m : sx_M} {o : Nat → Int64} {D : pj_H} {Q : pj_O → pj_H → Prop} (x : Int64) (set rule sum : Int32) (n : Nat) (hn8 : n ≤ 8) (w : Int64) (hset : vp_in set 4) (hw0 : ¬ w = 0) (fr : Int32) (hfr : vp_in fr 8) (g : Nat → Int64) (z0 : Int64 × (Nat → Int64)) (kk : ∀ z, it_up (fc_shA c.1 x set sum w fr) n 0 z0 = z → pj_J G mX1_share (d + 2) 90 [some (.ref 2), some (.long x), none, some (.int set), some (.int rule), some (.ref 43), some (.int sum), some (.int (nI n)), some (.long w), none, some (.long z.1), none, some (.int fr), some (.int (nI n)), none] [] (sx_mk (sx_sM c (sx_sL (sx_sL c.1 14 g) 13 z.2)) m o D) 0 0 Q) : pj_J G mX1_share (d + 2) 90 [some (.ref 2), some (.long x), none, some (.int set), some (.int rule), some (.ref 43), some (.int sum), some (.int (nI n)), some (.long w), none, some (.long z0.1), none, some (.int fr), some (.int (nI 0)), none] [] (sx_mk (sx_sM c (sx_sL (sx_sL c.1 14 g) 13 z0.2)) m o D) 0 0 Q := by
  refine pj_for (σ := Int64 × (Nat → Int64)) (fun (k : Nat) (z : Int64 × (Nat → Int64)) => pj_J G mX1_share (d + 2) 90 [some (.ref 2), some (.long x), none, some (.int set), some (.int rule), some (.ref 43), some (.int sum), some (.int (nI n)), some (.long w), none, some (.long z.1), none, some (.int fr), some (.int (nI k)), none] [] (sx_mk (sx_sM c (sx_sL (sx_sL c.1 14 g) 13 z.2)) m o D) 0 0 Q) (fc_shA c.1 x set sum w fr) (fun _ _ => True) n (fun k z hk hi => ?_) n 0 z0 (by simp) trivial (fun _ => kk (it_up (fc_shA c.1 x set sum w fr) n 0 z0) rfl)
  obtain ⟨l, f⟩ := z
  exact ⟨trivial, fun kk => ly_shA_3 x set rule sum n hn8 w l f g hset hw0 fr hfr k hk (by rw [nI_add1]; exact kk)⟩
theorem lp_shR_3 {G : pj_G} {d : Nat} {c : sx_C} {m : sx_M} {o : Nat → Int64} {D : pj_H} {Q : pj_O → pj_H → Prop} (x : Int64) (set rule sum : Int32) (n : Nat) (hn8 : n ≤ 8) (hn1 : 1 ≤ n) (w : Int64) (f g : Nat → Int64) (hset : vp_in set 4) (hw0 : ¬ w = 0) (hD : ¬ rule ≤ 1 ∨ rule = 1 ∨ (fc_shD n 8 (it_up (fc_shB c.1 x set sum w) n 0 (x, f, g))).1 ≤ 0) (q : Q (.inl none) (sx_mk (sx_sM c (sx_sL (sx_sL c.1 14 ((fc_shareR c.1 x set rule sum n w f g).2)) 13 ((fc_shareR c.1 x set rule sum n w f g).1))) m o D)) : pj_J G mX1_share (d + 2) 43 [some (.ref 2), some (.long x), none, some (.int set), some (.int rule), some (.ref 43), some (.int sum), some (.int (nI n)), some (.long w), none, some (.int (nI 8)), none, none, none, none] [] (sx_mk (sx_sM c (sx_sL (sx_sL c.1 14 g) 13 f)) m o D) 0 0 Q := by
  unfold fc_shareR at q
  by_cases hr : rule ≤ 1
  · rw [if_pos hr] at q
    refine lz_shZ1_3 x set rule sum n hn8 w x f g hset hw0 hr ?_
    refine lp_shB_3 x set rule sum n hn8 w hset hw0 (x, f, g) (fun z hz => ?_)
    rw [hz] at q hD
    obtain ⟨l, f2, g2⟩ := z
    by_cases h1 : rule = 1
    · rw [if_pos h1] at q
      exact lz_shB1_3 x set rule sum n hn8 w l f2 g2 hset hw0 h1 (lp_shC_3 x set rule sum n hn8 w g2 hset hw0 n 0 l f2 (by omega) q)
    · rw [if_neg h1] at q
      exact lz_shB0_3 x set rule sum n hn8 w l f2 g2 hset hw0 h1 (lp_shD_3 x set rule sum n hn8 hn1 w hset hw0 8 l f2 g2 (by rcases hD with h | h | h; exact absurd hr h; exact absurd h h1; exact h) q)
  · rw [if_neg hr] at q
    refine lz_shZ2_3 x set rule sum n hn8 w x f g hset hw0 hr ?_
    refine lp_shA_3 x set rule sum n hn8 w hset hw0 (fc_shF (nI n) rule) (fc_shF_vp hn1 hn8) g (x, f) (fun z hz => ?_)
    rw [hz] at q
    obtain ⟨l, f2⟩ := z
    exact lz_shA_3 x set rule sum n hn8 w l f2 g hset hw0 _ (fc_shF_vp hn1 hn8) q
theorem c_X1_share_3 {G : pj_G} {d : Nat} {c : sx_C} {m : sx_M} {o : Nat → Int64} {D : pj_H} (x : Int64) (set rule : Int32) (hO : fc_shOk c.1 x set rule (sx_L c.1 13)) : pj_Rt G mX1_share (d + 2) [.ref 2, .long x, .int set, .int rule, .ref 43] (sx_mk c m o D) 0 0 none (sx_mk (sx_sM c (sx_sL (sx_sL c.1 14 ((fc_share c.1 x set rule (sx_L c.1 13)).2)) 13 ((fc_share c.1 x set rule (sx_L c.1 13)).1))) m o D) := by
  obtain ⟨hset, hwc, hw0, hn1, hD⟩ := hO
  obtain ⟨n, hn8, hn⟩ := fc_many_vp hwc (fc_wholeWeight c.1 set)
  rw [hn, nI_clamp (by omega)] at hn1 hD
  unfold fc_share
  rw [hn, nI_clamp (by omega)]
  refine pj_Cn.start ?_
  refine pj_J.go (oX1_share G) 2 rfl trivial ?_
  refine pj_J.cal0 kX1_share_2 (c_X1_wholeWeight (c := c) set hset hwc) ⟨_, _, _, rfl, rfl⟩ pj_le0 pj_le0 pj_le0 ?_
  refine pj_J.go (oX1_share G) 3 rfl trivial ?_
  refine pj_J.ite (fun hc9 => ?_) (fun hc9 => ?_)
  · skip
    refine pj_J.go (oX1_share G) 5 rfl trivial ?_
    refine pj_J.pos (hc9) ?_
    refine pj_J.go (oX1_share G) 5 rfl trivial ?_
    have hm := hn
    unfold fc_many at hm
    rw [if_pos (show (fc_wholeWeight c.1 set) = (0 : Int32) from hc9)] at hm
    have hw2 : fc_wOf (fc_wholeWeight c.1 set) = (2 : Int64) := by unfold fc_wOf; rw [if_pos (show (fc_wholeWeight c.1 set) = (0 : Int32) from hc9)]
    refine pj_J.drop (L' := [some (.ref 2), some (.long x), none, some (.int set), some (.int rule), some (.ref 43), some (.int (fc_wholeWeight c.1 set)), some (.int (nI n)), some (.long (fc_wOf (fc_wholeWeight c.1 set))), none, some (.int (nI 0)), none, none, none, none]) ⟨rfl, rfl, rfl, rfl, rfl, rfl, by first | rfl | rw [hm], by rw [hw2], rfl, trivial⟩ ?_
    refine pj_for (fun k f => pj_J G mX1_share (d + 2) 43 [some (.ref 2), some (.long x), none, some (.int set), some (.int rule), some (.ref 43), some (.int (fc_wholeWeight c.1 set)), some (.int (nI n)), some (.long (fc_wOf (fc_wholeWeight c.1 set))), none, some (.int (nI k)), none, none, none, none] [] (sx_mk (sx_sM c (sx_sL (sx_sL c.1 14 (sx_L c.1 14)) 13 f)) m o D) 0 0 _) fc_shZ (fun _ _ => True) 8 (fun k f hk hi => ⟨hi, fun kk => ly_shZ_3 x set rule _ n hn8 _ 0 f (sx_L c.1 14) hset hw0 k hk (by rw [nI_add1]; exact kk)⟩) 8 0 (sx_L c.1 13) (by simp) trivial (fun _ => lp_shR_3 x set rule _ n hn8 hn1 _ (fc_share0 (sx_L c.1 13)) (sx_L c.1 14) hset hw0 hD ⟨rfl, rfl⟩)
  · skip
    refine pj_J.go (oX1_share G) 7 rfl ⟨by exact hset, trivial⟩ ?_
    refine pj_J.neg (hc9) ?_
    refine pj_J.go (oX1_share G) 5 rfl trivial ?_
    have hm := hn
    unfold fc_many at hm
    rw [if_neg (show ¬ ((fc_wholeWeight c.1 set) = (0 : Int32)) from hc9)] at hm
    have hw2 : fc_wOf (fc_wholeWeight c.1 set) = (fc_wholeWeight c.1 set).toInt64 := by unfold fc_wOf; rw [if_neg (show ¬ ((fc_wholeWeight c.1 set) = (0 : Int32)) from hc9)]
    refine pj_J.drop (L' := [some (.ref 2), some (.long x), none, some (.int set), some (.int rule), some (.ref 43), some (.int (fc_wholeWeight c.1 set)), some (.int (nI n)), some (.long (fc_wOf (fc_wholeWeight c.1 set))), none, some (.int (nI 0)), none, none, none, none]) ⟨rfl, rfl, rfl, rfl, rfl, rfl, by first | rfl | rw [hm], by rw [hw2], rfl, trivial⟩ ?_
    refine pj_for (fun k f => pj_J G mX1_share (d + 2) 43 [some (.ref 2), some (.long x), none, some (.int set), some (.int rule), some (.ref 43), some (.int (fc_wholeWeight c.1 set)), some (.int (nI n)), some (.long (fc_wOf (fc_wholeWeight c.1 set))), none, some (.int (nI k)), none, none, none, none] [] (sx_mk (sx_sM c (sx_sL (sx_sL c.1 14 (sx_L c.1 14)) 13 f)) m o D) 0 0 _) fc_shZ (fun _ _ => True) 8 (fun k f hk hi => ⟨hi, fun kk => ly_shZ_3 x set rule _ n hn8 _ 0 f (sx_L c.1 14) hset hw0 k hk (by rw [nI_add1]; exact kk)⟩) 8 0 (sx_L c.1 13) (by simp) trivial (fun _ => lp_shR_3 x set rule _ n hn8 hn1 _ (fc_share0 (sx_L c.1 13)) (sx_L c.1 14) hset hw0 hD ⟨rfl, rfl⟩)
