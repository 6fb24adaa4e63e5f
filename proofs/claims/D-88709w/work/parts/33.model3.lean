/-! PennyJudgeModel: more methods (by tools/gen_m3.py) -/
set_option maxRecDepth 100000
def fm_fits (k t v : Int32) : Int32 :=
  if k = 1 then (if fm_in t 0 7 = 0 then 0 else if fm_in v 0 5 = 0 then 0 else 1) else
  if k = 2 then (if fm_in t 0 7 = 0 then 0 else if fm_in v 0 5 = 0 then 0 else 1) else
  if k = 3 then (if fm_in t 0 7 = 0 then 0 else if fm_in v 0 7 = 0 then 0 else 1) else
  if k = 4 then (if fm_in t 0 5 = 0 then 0 else if fm_in v 1 100 = 0 then 0 else 1) else
  if k = 5 then (if fm_in t 0 7 = 0 then 0 else if fm_in v 0 1 = 0 then 0 else 1) else
  if k = 6 then (if fm_in t 0 3 = 0 then 0 else if fm_in v 0 3 = 0 then 0 else 1) else
  if k = 7 then (if fm_in t 0 7 = 0 then 0 else if v = 0 then 1 else 0) else
  if k = 8 then (if t = 0 then (if v = 0 then 1 else 0) else 0) else
  if k = 9 then (if fm_in t 0 1 = 0 then 0 else if fm_in v 0 1000000 = 0 then 0 else 1) else
  if k = 10 then (if fm_in t 0 7 = 0 then 0 else if fm_in v 0 1 = 0 then 0 else 1) else
  if k = 11 then (if fm_in t 0 7 = 0 then 0 else if fm_in v 0 5 = 0 then 0 else 1) else
  if k = 12 then (if fm_in t 0 7 = 0 then 0 else if fm_in v 1 30 = 0 then 0 else 1) else if t = 0 then (if v = 0 then 1 else 0) else 0
theorem c_X4_fits {G : pj_G} {d : Nat} {h : pj_H} (k t v : Int32) : pj_Rt G mX4_fits (d + 1) [.int k, .int t, .int v] h 0 0 (some (.int (fm_fits k t v))) h := by
  refine pj_Cn.start ?_
  refine pj_J.go (oX4_fits G) 3 rfl trivial ?_
  refine pj_J.cal0 kX4_fits_3 (c_X4_in _ _ _) trivial pj_le0 pj_le0 pj_le0 ?_
  refine pj_J.go (oX4_fits G) 3 rfl trivial ?_
  refine pj_J.swc (fun hs1 => ?_) (fun hs1 => ?_)
  · skip
    refine pj_J.go (oX4_fits G) 3 rfl trivial ?_
    refine pj_J.cal0 kX4_fits_76 (c_X4_in _ _ _) trivial pj_le0 pj_le0 pj_le0 ?_
    refine pj_J.go (oX4_fits G) 1 rfl trivial ?_
    refine pj_J.ite (fun hc79 => ?_) (fun hc79 => ?_)
    · skip
      refine pj_J.go (oX4_fits G) 1 rfl trivial ?_
      refine pj_zret dX4_fits_91 rfl (by first | exact Or.inl rfl | exact Or.inr rfl | exact pj_b01 _) ?_
      show _ = _ ∧ _ = _
      unfold fm_fits
      rw [if_pos hs1, if_pos hc79]
      exact ⟨rfl, rfl⟩
    · skip
      refine pj_J.go (oX4_fits G) 2 rfl trivial ?_
      refine pj_J.ite (fun hc83 => ?_) (fun hc83 => ?_)
      · skip
        refine pj_J.go (oX4_fits G) 1 rfl trivial ?_
        refine pj_zret dX4_fits_91 rfl (by first | exact Or.inl rfl | exact Or.inr rfl | exact pj_b01 _) ?_
        show _ = _ ∧ _ = _
        unfold fm_fits
        rw [if_pos hs1, if_neg hc79, if_pos hc83]
        exact ⟨rfl, rfl⟩
      · skip
        refine pj_J.go (oX4_fits G) 2 rfl trivial ?_
        refine pj_zret dX4_fits_91 rfl (by first | exact Or.inl rfl | exact Or.inr rfl | exact pj_b01 _) ?_
        show _ = _ ∧ _ = _
        unfold fm_fits
        rw [if_pos hs1, if_neg hc79, if_neg hc83]
        exact ⟨rfl, rfl⟩
  refine pj_J.swc (fun hs2 => ?_) (fun hs2 => ?_)
  · skip
    refine pj_J.go (oX4_fits G) 3 rfl trivial ?_
    refine pj_J.cal0 kX4_fits_76 (c_X4_in _ _ _) trivial pj_le0 pj_le0 pj_le0 ?_
    refine pj_J.go (oX4_fits G) 1 rfl trivial ?_
    refine pj_J.ite (fun hc79 => ?_) (fun hc79 => ?_)
    · skip
      refine pj_J.go (oX4_fits G) 1 rfl trivial ?_
      refine pj_zret dX4_fits_91 rfl (by first | exact Or.inl rfl | exact Or.inr rfl | exact pj_b01 _) ?_
      show _ = _ ∧ _ = _
      unfold fm_fits
      rw [if_neg hs1, if_pos hs2, if_pos hc79]
      exact ⟨rfl, rfl⟩
    · skip
      refine pj_J.go (oX4_fits G) 2 rfl trivial ?_
      refine pj_J.ite (fun hc83 => ?_) (fun hc83 => ?_)
      · skip
        refine pj_J.go (oX4_fits G) 1 rfl trivial ?_
        refine pj_zret dX4_fits_91 rfl (by first | exact Or.inl rfl | exact Or.inr rfl | exact pj_b01 _) ?_
        show _ = _ ∧ _ = _
        unfold fm_fits
        rw [if_neg hs1, if_pos hs2, if_neg hc79, if_pos hc83]
        exact ⟨rfl, rfl⟩
      · skip
        refine pj_J.go (oX4_fits G) 2 rfl trivial ?_
        refine pj_zret dX4_fits_91 rfl (by first | exact Or.inl rfl | exact Or.inr rfl | exact pj_b01 _) ?_
        show _ = _ ∧ _ = _
        unfold fm_fits
        rw [if_neg hs1, if_pos hs2, if_neg hc79, if_neg hc83]
        exact ⟨rfl, rfl⟩
  refine pj_J.swc (fun hs3 => ?_) (fun hs3 => ?_)
  · skip
    refine pj_J.go (oX4_fits G) 3 rfl trivial ?_
    refine pj_J.cal0 kX4_fits_96 (c_X4_in _ _ _) trivial pj_le0 pj_le0 pj_le0 ?_
    refine pj_J.go (oX4_fits G) 1 rfl trivial ?_
    refine pj_J.ite (fun hc99 => ?_) (fun hc99 => ?_)
    · skip
      refine pj_J.go (oX4_fits G) 1 rfl trivial ?_
      refine pj_zret dX4_fits_117 rfl (by first | exact Or.inl rfl | exact Or.inr rfl | exact pj_b01 _) ?_
      show _ = _ ∧ _ = _
      unfold fm_fits
      rw [if_neg hs1, if_neg hs2, if_pos hs3, if_pos hc99]
      exact ⟨rfl, rfl⟩
    · skip
      refine pj_J.go (oX4_fits G) 3 rfl trivial ?_
      refine pj_J.cal0 kX4_fits_106 (c_X4_in _ _ _) trivial pj_le0 pj_le0 pj_le0 ?_
      refine pj_J.go (oX4_fits G) 1 rfl trivial ?_
      refine pj_J.ite (fun hc109 => ?_) (fun hc109 => ?_)
      · skip
        refine pj_J.go (oX4_fits G) 1 rfl trivial ?_
        refine pj_zret dX4_fits_117 rfl (by first | exact Or.inl rfl | exact Or.inr rfl | exact pj_b01 _) ?_
        show _ = _ ∧ _ = _
        unfold fm_fits
        rw [if_neg hs1, if_neg hs2, if_pos hs3, if_neg hc99, if_pos hc109]
        exact ⟨rfl, rfl⟩
      · skip
        refine pj_J.go (oX4_fits G) 2 rfl trivial ?_
        refine pj_zret dX4_fits_117 rfl (by first | exact Or.inl rfl | exact Or.inr rfl | exact pj_b01 _) ?_
        show _ = _ ∧ _ = _
        unfold fm_fits
        rw [if_neg hs1, if_neg hs2, if_pos hs3, if_neg hc99, if_neg hc109]
        exact ⟨rfl, rfl⟩
  refine pj_J.swc (fun hs4 => ?_) (fun hs4 => ?_)
  · skip
    refine pj_J.go (oX4_fits G) 3 rfl trivial ?_
    refine pj_J.cal0 kX4_fits_121 (c_X4_in _ _ _) trivial pj_le0 pj_le0 pj_le0 ?_
    refine pj_J.go (oX4_fits G) 1 rfl trivial ?_
    refine pj_J.ite (fun hc124 => ?_) (fun hc124 => ?_)
    · skip
      refine pj_J.go (oX4_fits G) 1 rfl trivial ?_
      refine pj_zret dX4_fits_142 rfl (by first | exact Or.inl rfl | exact Or.inr rfl | exact pj_b01 _) ?_
      show _ = _ ∧ _ = _
      unfold fm_fits
      rw [if_neg hs1, if_neg hs2, if_neg hs3, if_pos hs4, if_pos hc124]
      exact ⟨rfl, rfl⟩
    · skip
      refine pj_J.go (oX4_fits G) 3 rfl trivial ?_
      refine pj_J.cal0 kX4_fits_131 (c_X4_in _ _ _) trivial pj_le0 pj_le0 pj_le0 ?_
      refine pj_J.go (oX4_fits G) 1 rfl trivial ?_
      refine pj_J.ite (fun hc134 => ?_) (fun hc134 => ?_)
      · skip
        refine pj_J.go (oX4_fits G) 1 rfl trivial ?_
        refine pj_zret dX4_fits_142 rfl (by first | exact Or.inl rfl | exact Or.inr rfl | exact pj_b01 _) ?_
        show _ = _ ∧ _ = _
        unfold fm_fits
        rw [if_neg hs1, if_neg hs2, if_neg hs3, if_pos hs4, if_neg hc124, if_pos hc134]
        exact ⟨rfl, rfl⟩
      · skip
        refine pj_J.go (oX4_fits G) 2 rfl trivial ?_
        refine pj_zret dX4_fits_142 rfl (by first | exact Or.inl rfl | exact Or.inr rfl | exact pj_b01 _) ?_
        show _ = _ ∧ _ = _
        unfold fm_fits
        rw [if_neg hs1, if_neg hs2, if_neg hs3, if_pos hs4, if_neg hc124, if_neg hc134]
        exact ⟨rfl, rfl⟩
  refine pj_J.swc (fun hs5 => ?_) (fun hs5 => ?_)
  · skip
    refine pj_J.go (oX4_fits G) 3 rfl trivial ?_
    refine pj_J.cal0 kX4_fits_147 (c_X4_in _ _ _) trivial pj_le0 pj_le0 pj_le0 ?_
    refine pj_J.go (oX4_fits G) 1 rfl trivial ?_
    refine pj_J.ite (fun hc150 => ?_) (fun hc150 => ?_)
    · skip
      refine pj_J.go (oX4_fits G) 1 rfl trivial ?_
      refine pj_zret dX4_fits_167 rfl (by first | exact Or.inl rfl | exact Or.inr rfl | exact pj_b01 _) ?_
      show _ = _ ∧ _ = _
      unfold fm_fits
      rw [if_neg hs1, if_neg hs2, if_neg hs3, if_neg hs4, if_pos hs5, if_pos hc150]
      exact ⟨rfl, rfl⟩
    · skip
      refine pj_J.go (oX4_fits G) 3 rfl trivial ?_
      refine pj_J.cal0 kX4_fits_156 (c_X4_in _ _ _) trivial pj_le0 pj_le0 pj_le0 ?_
      refine pj_J.go (oX4_fits G) 1 rfl trivial ?_
      refine pj_J.ite (fun hc159 => ?_) (fun hc159 => ?_)
      · skip
        refine pj_J.go (oX4_fits G) 1 rfl trivial ?_
        refine pj_zret dX4_fits_167 rfl (by first | exact Or.inl rfl | exact Or.inr rfl | exact pj_b01 _) ?_
        show _ = _ ∧ _ = _
        unfold fm_fits
        rw [if_neg hs1, if_neg hs2, if_neg hs3, if_neg hs4, if_pos hs5, if_neg hc150, if_pos hc159]
        exact ⟨rfl, rfl⟩
      · skip
        refine pj_J.go (oX4_fits G) 2 rfl trivial ?_
        refine pj_zret dX4_fits_167 rfl (by first | exact Or.inl rfl | exact Or.inr rfl | exact pj_b01 _) ?_
        show _ = _ ∧ _ = _
        unfold fm_fits
        rw [if_neg hs1, if_neg hs2, if_neg hs3, if_neg hs4, if_pos hs5, if_neg hc150, if_neg hc159]
        exact ⟨rfl, rfl⟩
  refine pj_J.swc (fun hs6 => ?_) (fun hs6 => ?_)
  · skip
    refine pj_J.go (oX4_fits G) 3 rfl trivial ?_
    refine pj_J.cal0 kX4_fits_171 (c_X4_in _ _ _) trivial pj_le0 pj_le0 pj_le0 ?_
    refine pj_J.go (oX4_fits G) 1 rfl trivial ?_
    refine pj_J.ite (fun hc174 => ?_) (fun hc174 => ?_)
    · skip
      refine pj_J.go (oX4_fits G) 1 rfl trivial ?_
      refine pj_zret dX4_fits_191 rfl (by first | exact Or.inl rfl | exact Or.inr rfl | exact pj_b01 _) ?_
      show _ = _ ∧ _ = _
      unfold fm_fits
      rw [if_neg hs1, if_neg hs2, if_neg hs3, if_neg hs4, if_neg hs5, if_pos hs6, if_pos hc174]
      exact ⟨rfl, rfl⟩
    · skip
      refine pj_J.go (oX4_fits G) 3 rfl trivial ?_
      refine pj_J.cal0 kX4_fits_180 (c_X4_in _ _ _) trivial pj_le0 pj_le0 pj_le0 ?_
      refine pj_J.go (oX4_fits G) 1 rfl trivial ?_
      refine pj_J.ite (fun hc183 => ?_) (fun hc183 => ?_)
      · skip
        refine pj_J.go (oX4_fits G) 1 rfl trivial ?_
        refine pj_zret dX4_fits_191 rfl (by first | exact Or.inl rfl | exact Or.inr rfl | exact pj_b01 _) ?_
        show _ = _ ∧ _ = _
        unfold fm_fits
        rw [if_neg hs1, if_neg hs2, if_neg hs3, if_neg hs4, if_neg hs5, if_pos hs6, if_neg hc174, if_pos hc183]
        exact ⟨rfl, rfl⟩
      · skip
        refine pj_J.go (oX4_fits G) 2 rfl trivial ?_
        refine pj_zret dX4_fits_191 rfl (by first | exact Or.inl rfl | exact Or.inr rfl | exact pj_b01 _) ?_
        show _ = _ ∧ _ = _
        unfold fm_fits
        rw [if_neg hs1, if_neg hs2, if_neg hs3, if_neg hs4, if_neg hs5, if_pos hs6, if_neg hc174, if_neg hc183]
        exact ⟨rfl, rfl⟩
  refine pj_J.swc (fun hs7 => ?_) (fun hs7 => ?_)
  · skip
    refine pj_J.go (oX4_fits G) 3 rfl trivial ?_
    refine pj_J.cal0 kX4_fits_196 (c_X4_in _ _ _) trivial pj_le0 pj_le0 pj_le0 ?_
    refine pj_J.go (oX4_fits G) 1 rfl trivial ?_
    refine pj_J.ite (fun hc199 => ?_) (fun hc199 => ?_)
    · skip
      refine pj_J.go (oX4_fits G) 1 rfl trivial ?_
      refine pj_zret dX4_fits_211 rfl (by first | exact Or.inl rfl | exact Or.inr rfl | exact pj_b01 _) ?_
      show _ = _ ∧ _ = _
      unfold fm_fits
      rw [if_neg hs1, if_neg hs2, if_neg hs3, if_neg hs4, if_neg hs5, if_neg hs6, if_pos hs7, if_pos hc199]
      exact ⟨rfl, rfl⟩
    · skip
      refine pj_J.go (oX4_fits G) 2 rfl trivial ?_
      refine pj_J.ite (fun hc203 => ?_) (fun hc203 => ?_)
      · skip
        refine pj_J.go (oX4_fits G) 2 rfl trivial ?_
        refine pj_zret dX4_fits_211 rfl (by first | exact Or.inl rfl | exact Or.inr rfl | exact pj_b01 _) ?_
        show _ = _ ∧ _ = _
        unfold fm_fits
        rw [if_neg hs1, if_neg hs2, if_neg hs3, if_neg hs4, if_neg hs5, if_neg hs6, if_pos hs7, if_neg hc199, if_pos hc203]
        exact ⟨rfl, rfl⟩
      · skip
        refine pj_J.go (oX4_fits G) 1 rfl trivial ?_
        refine pj_zret dX4_fits_211 rfl (by first | exact Or.inl rfl | exact Or.inr rfl | exact pj_b01 _) ?_
        show _ = _ ∧ _ = _
        unfold fm_fits
        rw [if_neg hs1, if_neg hs2, if_neg hs3, if_neg hs4, if_neg hs5, if_neg hs6, if_pos hs7, if_neg hc199, if_neg hc203]
        exact ⟨rfl, rfl⟩
  refine pj_J.swc (fun hs8 => ?_) (fun hs8 => ?_)
  · skip
    refine pj_J.go (oX4_fits G) 2 rfl trivial ?_
    refine pj_J.ite (fun hc284 => ?_) (fun hc284 => ?_)
    · skip
      refine pj_J.go (oX4_fits G) 2 rfl trivial ?_
      refine pj_J.ite (fun hc288 => ?_) (fun hc288 => ?_)
      · skip
        refine pj_J.go (oX4_fits G) 2 rfl trivial ?_
        refine pj_zret dX4_fits_296 rfl (by first | exact Or.inl rfl | exact Or.inr rfl | exact pj_b01 _) ?_
        show _ = _ ∧ _ = _
        unfold fm_fits
        rw [if_neg hs1, if_neg hs2, if_neg hs3, if_neg hs4, if_neg hs5, if_neg hs6, if_neg hs7, if_pos hs8, if_pos hc284, if_pos hc288]
        exact ⟨rfl, rfl⟩
      · skip
        refine pj_J.go (oX4_fits G) 1 rfl trivial ?_
        refine pj_zret dX4_fits_296 rfl (by first | exact Or.inl rfl | exact Or.inr rfl | exact pj_b01 _) ?_
        show _ = _ ∧ _ = _
        unfold fm_fits
        rw [if_neg hs1, if_neg hs2, if_neg hs3, if_neg hs4, if_neg hs5, if_neg hs6, if_neg hs7, if_pos hs8, if_pos hc284, if_neg hc288]
        exact ⟨rfl, rfl⟩
    · skip
      refine pj_J.go (oX4_fits G) 1 rfl trivial ?_
      refine pj_zret dX4_fits_296 rfl (by first | exact Or.inl rfl | exact Or.inr rfl | exact pj_b01 _) ?_
      show _ = _ ∧ _ = _
      unfold fm_fits
      rw [if_neg hs1, if_neg hs2, if_neg hs3, if_neg hs4, if_neg hs5, if_neg hs6, if_neg hs7, if_pos hs8, if_neg hc284]
      exact ⟨rfl, rfl⟩
  refine pj_J.swc (fun hs9 => ?_) (fun hs9 => ?_)
  · skip
    refine pj_J.go (oX4_fits G) 3 rfl trivial ?_
    refine pj_J.cal0 kX4_fits_215 (c_X4_in _ _ _) trivial pj_le0 pj_le0 pj_le0 ?_
    refine pj_J.go (oX4_fits G) 1 rfl trivial ?_
    refine pj_J.ite (fun hc218 => ?_) (fun hc218 => ?_)
    · skip
      refine pj_J.go (oX4_fits G) 1 rfl trivial ?_
      refine pj_zret dX4_fits_236 rfl (by first | exact Or.inl rfl | exact Or.inr rfl | exact pj_b01 _) ?_
      show _ = _ ∧ _ = _
      unfold fm_fits
      rw [if_neg hs1, if_neg hs2, if_neg hs3, if_neg hs4, if_neg hs5, if_neg hs6, if_neg hs7, if_neg hs8, if_pos hs9, if_pos hc218]
      exact ⟨rfl, rfl⟩
    · skip
      refine pj_J.go (oX4_fits G) 3 rfl trivial ?_
      refine pj_J.cal0 kX4_fits_225 (c_X4_in _ _ _) trivial pj_le0 pj_le0 pj_le0 ?_
      refine pj_J.go (oX4_fits G) 1 rfl trivial ?_
      refine pj_J.ite (fun hc228 => ?_) (fun hc228 => ?_)
      · skip
        refine pj_J.go (oX4_fits G) 1 rfl trivial ?_
        refine pj_zret dX4_fits_236 rfl (by first | exact Or.inl rfl | exact Or.inr rfl | exact pj_b01 _) ?_
        show _ = _ ∧ _ = _
        unfold fm_fits
        rw [if_neg hs1, if_neg hs2, if_neg hs3, if_neg hs4, if_neg hs5, if_neg hs6, if_neg hs7, if_neg hs8, if_pos hs9, if_neg hc218, if_pos hc228]
        exact ⟨rfl, rfl⟩
      · skip
        refine pj_J.go (oX4_fits G) 2 rfl trivial ?_
        refine pj_zret dX4_fits_236 rfl (by first | exact Or.inl rfl | exact Or.inr rfl | exact pj_b01 _) ?_
        show _ = _ ∧ _ = _
        unfold fm_fits
        rw [if_neg hs1, if_neg hs2, if_neg hs3, if_neg hs4, if_neg hs5, if_neg hs6, if_neg hs7, if_neg hs8, if_pos hs9, if_neg hc218, if_neg hc228]
        exact ⟨rfl, rfl⟩
  refine pj_J.swc (fun hs10 => ?_) (fun hs10 => ?_)
  · skip
    refine pj_J.go (oX4_fits G) 3 rfl trivial ?_
    refine pj_J.cal0 kX4_fits_147 (c_X4_in _ _ _) trivial pj_le0 pj_le0 pj_le0 ?_
    refine pj_J.go (oX4_fits G) 1 rfl trivial ?_
    refine pj_J.ite (fun hc150 => ?_) (fun hc150 => ?_)
    · skip
      refine pj_J.go (oX4_fits G) 1 rfl trivial ?_
      refine pj_zret dX4_fits_167 rfl (by first | exact Or.inl rfl | exact Or.inr rfl | exact pj_b01 _) ?_
      show _ = _ ∧ _ = _
      unfold fm_fits
      rw [if_neg hs1, if_neg hs2, if_neg hs3, if_neg hs4, if_neg hs5, if_neg hs6, if_neg hs7, if_neg hs8, if_neg hs9, if_pos hs10, if_pos hc150]
      exact ⟨rfl, rfl⟩
    · skip
      refine pj_J.go (oX4_fits G) 3 rfl trivial ?_
      refine pj_J.cal0 kX4_fits_156 (c_X4_in _ _ _) trivial pj_le0 pj_le0 pj_le0 ?_
      refine pj_J.go (oX4_fits G) 1 rfl trivial ?_
      refine pj_J.ite (fun hc159 => ?_) (fun hc159 => ?_)
      · skip
        refine pj_J.go (oX4_fits G) 1 rfl trivial ?_
        refine pj_zret dX4_fits_167 rfl (by first | exact Or.inl rfl | exact Or.inr rfl | exact pj_b01 _) ?_
        show _ = _ ∧ _ = _
        unfold fm_fits
        rw [if_neg hs1, if_neg hs2, if_neg hs3, if_neg hs4, if_neg hs5, if_neg hs6, if_neg hs7, if_neg hs8, if_neg hs9, if_pos hs10, if_neg hc150, if_pos hc159]
        exact ⟨rfl, rfl⟩
      · skip
        refine pj_J.go (oX4_fits G) 2 rfl trivial ?_
        refine pj_zret dX4_fits_167 rfl (by first | exact Or.inl rfl | exact Or.inr rfl | exact pj_b01 _) ?_
        show _ = _ ∧ _ = _
        unfold fm_fits
        rw [if_neg hs1, if_neg hs2, if_neg hs3, if_neg hs4, if_neg hs5, if_neg hs6, if_neg hs7, if_neg hs8, if_neg hs9, if_pos hs10, if_neg hc150, if_neg hc159]
        exact ⟨rfl, rfl⟩
  refine pj_J.swc (fun hs11 => ?_) (fun hs11 => ?_)
  · skip
    refine pj_J.go (oX4_fits G) 3 rfl trivial ?_
    refine pj_J.cal0 kX4_fits_241 (c_X4_in _ _ _) trivial pj_le0 pj_le0 pj_le0 ?_
    refine pj_J.go (oX4_fits G) 1 rfl trivial ?_
    refine pj_J.ite (fun hc244 => ?_) (fun hc244 => ?_)
    · skip
      refine pj_J.go (oX4_fits G) 1 rfl trivial ?_
      refine pj_zret dX4_fits_256 rfl (by first | exact Or.inl rfl | exact Or.inr rfl | exact pj_b01 _) ?_
      show _ = _ ∧ _ = _
      unfold fm_fits
      rw [if_neg hs1, if_neg hs2, if_neg hs3, if_neg hs4, if_neg hs5, if_neg hs6, if_neg hs7, if_neg hs8, if_neg hs9, if_neg hs10, if_pos hs11, if_pos hc244]
      exact ⟨rfl, rfl⟩
    · skip
      refine pj_J.go (oX4_fits G) 2 rfl trivial ?_
      refine pj_J.ite (fun hc248 => ?_) (fun hc248 => ?_)
      · skip
        refine pj_J.go (oX4_fits G) 1 rfl trivial ?_
        refine pj_zret dX4_fits_256 rfl (by first | exact Or.inl rfl | exact Or.inr rfl | exact pj_b01 _) ?_
        show _ = _ ∧ _ = _
        unfold fm_fits
        rw [if_neg hs1, if_neg hs2, if_neg hs3, if_neg hs4, if_neg hs5, if_neg hs6, if_neg hs7, if_neg hs8, if_neg hs9, if_neg hs10, if_pos hs11, if_neg hc244, if_pos hc248]
        exact ⟨rfl, rfl⟩
      · skip
        refine pj_J.go (oX4_fits G) 2 rfl trivial ?_
        refine pj_zret dX4_fits_256 rfl (by first | exact Or.inl rfl | exact Or.inr rfl | exact pj_b01 _) ?_
        show _ = _ ∧ _ = _
        unfold fm_fits
        rw [if_neg hs1, if_neg hs2, if_neg hs3, if_neg hs4, if_neg hs5, if_neg hs6, if_neg hs7, if_neg hs8, if_neg hs9, if_neg hs10, if_pos hs11, if_neg hc244, if_neg hc248]
        exact ⟨rfl, rfl⟩
  refine pj_J.swc (fun hs12 => ?_) (fun hs12 => ?_)
  · skip
    refine pj_J.go (oX4_fits G) 3 rfl trivial ?_
    refine pj_J.cal0 kX4_fits_261 (c_X4_in _ _ _) trivial pj_le0 pj_le0 pj_le0 ?_
    refine pj_J.go (oX4_fits G) 1 rfl trivial ?_
    refine pj_J.ite (fun hc264 => ?_) (fun hc264 => ?_)
    · skip
      refine pj_J.go (oX4_fits G) 1 rfl trivial ?_
      refine pj_zret dX4_fits_282 rfl (by first | exact Or.inl rfl | exact Or.inr rfl | exact pj_b01 _) ?_
      show _ = _ ∧ _ = _
      unfold fm_fits
      rw [if_neg hs1, if_neg hs2, if_neg hs3, if_neg hs4, if_neg hs5, if_neg hs6, if_neg hs7, if_neg hs8, if_neg hs9, if_neg hs10, if_neg hs11, if_pos hs12, if_pos hc264]
      exact ⟨rfl, rfl⟩
    · skip
      refine pj_J.go (oX4_fits G) 3 rfl trivial ?_
      refine pj_J.cal0 kX4_fits_271 (c_X4_in _ _ _) trivial pj_le0 pj_le0 pj_le0 ?_
      refine pj_J.go (oX4_fits G) 1 rfl trivial ?_
      refine pj_J.ite (fun hc274 => ?_) (fun hc274 => ?_)
      · skip
        refine pj_J.go (oX4_fits G) 1 rfl trivial ?_
        refine pj_zret dX4_fits_282 rfl (by first | exact Or.inl rfl | exact Or.inr rfl | exact pj_b01 _) ?_
        show _ = _ ∧ _ = _
        unfold fm_fits
        rw [if_neg hs1, if_neg hs2, if_neg hs3, if_neg hs4, if_neg hs5, if_neg hs6, if_neg hs7, if_neg hs8, if_neg hs9, if_neg hs10, if_neg hs11, if_pos hs12, if_neg hc264, if_pos hc274]
        exact ⟨rfl, rfl⟩
      · skip
        refine pj_J.go (oX4_fits G) 2 rfl trivial ?_
        refine pj_zret dX4_fits_282 rfl (by first | exact Or.inl rfl | exact Or.inr rfl | exact pj_b01 _) ?_
        show _ = _ ∧ _ = _
        unfold fm_fits
        rw [if_neg hs1, if_neg hs2, if_neg hs3, if_neg hs4, if_neg hs5, if_neg hs6, if_neg hs7, if_neg hs8, if_neg hs9, if_neg hs10, if_neg hs11, if_pos hs12, if_neg hc264, if_neg hc274]
        exact ⟨rfl, rfl⟩
  refine pj_J.swn ?_
  refine pj_J.go (oX4_fits G) 2 rfl trivial ?_
  refine pj_J.ite (fun hc284 => ?_) (fun hc284 => ?_)
  · skip
    refine pj_J.go (oX4_fits G) 2 rfl trivial ?_
    refine pj_J.ite (fun hc288 => ?_) (fun hc288 => ?_)
    · skip
      refine pj_J.go (oX4_fits G) 2 rfl trivial ?_
      refine pj_zret dX4_fits_296 rfl (by first | exact Or.inl rfl | exact Or.inr rfl | exact pj_b01 _) ?_
      show _ = _ ∧ _ = _
      unfold fm_fits
      rw [if_neg hs1, if_neg hs2, if_neg hs3, if_neg hs4, if_neg hs5, if_neg hs6, if_neg hs7, if_neg hs8, if_neg hs9, if_neg hs10, if_neg hs11, if_neg hs12, if_pos hc284, if_pos hc288]
      exact ⟨rfl, rfl⟩
    · skip
      refine pj_J.go (oX4_fits G) 1 rfl trivial ?_
      refine pj_zret dX4_fits_296 rfl (by first | exact Or.inl rfl | exact Or.inr rfl | exact pj_b01 _) ?_
      show _ = _ ∧ _ = _
      unfold fm_fits
      rw [if_neg hs1, if_neg hs2, if_neg hs3, if_neg hs4, if_neg hs5, if_neg hs6, if_neg hs7, if_neg hs8, if_neg hs9, if_neg hs10, if_neg hs11, if_neg hs12, if_pos hc284, if_neg hc288]
      exact ⟨rfl, rfl⟩
  · skip
    refine pj_J.go (oX4_fits G) 1 rfl trivial ?_
    refine pj_zret dX4_fits_296 rfl (by first | exact Or.inl rfl | exact Or.inr rfl | exact pj_b01 _) ?_
    show _ = _ ∧ _ = _
    unfold fm_fits
    rw [if_neg hs1, if_neg hs2, if_neg hs3, if_neg hs4, if_neg hs5, if_neg hs6, if_neg hs7, if_neg hs8, if_neg hs9, if_neg hs10, if_neg hs11, if_neg hs12, if_neg hc284]
    exact ⟨rfl, rfl⟩
theorem c_X4_isTape {G : pj_G} {d : Nat} {h : pj_H} (t : Int32) : pj_Rt G mX4_isTape (d + 1) [.int t] h 0 0 (some (.int (fm_in t 0 5))) h := by
  refine pj_Cn.start ?_
  refine pj_J.go (oX4_isTape G) 3 rfl trivial ?_
  refine pj_J.cal0 kX4_isTape_3 (c_X4_in _ _ _) trivial pj_le0 pj_le0 pj_le0 ?_
  exact pj_zret dX4_isTape_6 rfl (by first | exact Or.inl rfl | exact Or.inr rfl | exact pj_b01 _) ⟨rfl, rfl⟩
def fm_isSpan (a b n : Int32) : Int32 := if fm_in a (-1000000) 1000000 = 0 then 0 else if fm_in b (-1000000) 1000000 = 0 then 0 else if b < a then 0 else if n < b - a then 0 else 1
theorem c_X4_isSpan {G : pj_G} {d : Nat} {h : pj_H} (a b n : Int32) : pj_Rt G mX4_isSpan (d + 1) [.int a, .int b, .int n] h 0 0 (some (.int (fm_isSpan a b n))) h := by
  refine pj_Cn.start ?_
  refine pj_J.go (oX4_isSpan G) 3 rfl trivial ?_
  refine pj_J.cal0 kX4_isSpan_6 (c_X4_in _ _ _) trivial pj_le0 pj_le0 pj_le0 ?_
  refine pj_J.go (oX4_isSpan G) 1 rfl trivial ?_
  refine pj_J.ite (fun hc9 => ?_) (fun hc9 => ?_)
  · skip
    refine pj_J.go (oX4_isSpan G) 1 rfl trivial ?_
    refine pj_zret dX4_isSpan_41 rfl (by first | exact Or.inl rfl | exact Or.inr rfl | exact pj_b01 _) ?_
    show _ = _ ∧ _ = _
    unfold fm_isSpan
    rw [if_pos hc9]
    exact ⟨rfl, rfl⟩
  · skip
    refine pj_J.go (oX4_isSpan G) 3 rfl trivial ?_
    refine pj_J.cal0 kX4_isSpan_18 (c_X4_in _ _ _) trivial pj_le0 pj_le0 pj_le0 ?_
    refine pj_J.go (oX4_isSpan G) 1 rfl trivial ?_
    refine pj_J.ite (fun hc21 => ?_) (fun hc21 => ?_)
    · skip
      refine pj_J.go (oX4_isSpan G) 1 rfl trivial ?_
      refine pj_zret dX4_isSpan_41 rfl (by first | exact Or.inl rfl | exact Or.inr rfl | exact pj_b01 _) ?_
      show _ = _ ∧ _ = _
      unfold fm_isSpan
      rw [if_neg hc9, if_pos hc21]
      exact ⟨rfl, rfl⟩
    · skip
      refine pj_J.go (oX4_isSpan G) 3 rfl trivial ?_
      refine pj_J.ite (fun hc26 => ?_) (fun hc26 => ?_)
      · skip
        refine pj_J.go (oX4_isSpan G) 1 rfl trivial ?_
        refine pj_zret dX4_isSpan_41 rfl (by first | exact Or.inl rfl | exact Or.inr rfl | exact pj_b01 _) ?_
        show _ = _ ∧ _ = _
        unfold fm_isSpan
        rw [if_neg hc9, if_neg hc21, if_pos hc26]
        exact ⟨rfl, rfl⟩
      · skip
        refine pj_J.go (oX4_isSpan G) 5 rfl trivial ?_
        refine pj_J.ite (fun hc33 => ?_) (fun hc33 => ?_)
        · skip
          refine pj_J.go (oX4_isSpan G) 1 rfl trivial ?_
          refine pj_zret dX4_isSpan_41 rfl (by first | exact Or.inl rfl | exact Or.inr rfl | exact pj_b01 _) ?_
          show _ = _ ∧ _ = _
          unfold fm_isSpan
          rw [if_neg hc9, if_neg hc21, if_neg hc26, if_pos hc33]
          exact ⟨rfl, rfl⟩
        · skip
          refine pj_J.go (oX4_isSpan G) 2 rfl trivial ?_
          refine pj_zret dX4_isSpan_41 rfl (by first | exact Or.inl rfl | exact Or.inr rfl | exact pj_b01 _) ?_
          show _ = _ ∧ _ = _
          unfold fm_isSpan
          rw [if_neg hc9, if_neg hc21, if_neg hc26, if_neg hc33]
          exact ⟨rfl, rfl⟩
def fm_narrowed (s : Int32) (v : Int64) : Int64 := if s = 1 then v.toInt32.toInt8.toInt32.toInt64 else if s = 2 then v.toInt32.toInt16.toInt32.toInt64 else if s = 3 then v.toInt32.toInt64 else v
theorem c_X4_narrowed {G : pj_G} {d : Nat} {h : pj_H} (s : Int32) (v : Int64) : pj_Rt G mX4_narrowed d [.int s, .long v] h 0 0 (some (.long (fm_narrowed s v))) h := by
  refine pj_Cn.start ?_
  refine pj_J.go (oX4_narrowed G) 3 rfl trivial ?_
  refine pj_J.ite (fun hc2 => ?_) (fun hc2 => ?_)
  · skip
    refine pj_J.go (oX4_narrowed G) 5 rfl trivial ?_
    refine pj_lret dX4_narrowed_36 rfl ?_
    show _ = _ ∧ _ = _
    unfold fm_narrowed
    rw [if_pos hc2]
    exact ⟨rfl, rfl⟩
  · skip
    refine pj_J.go (oX4_narrowed G) 3 rfl trivial ?_
    refine pj_J.ite (fun hc14 => ?_) (fun hc14 => ?_)
    · skip
      refine pj_J.go (oX4_narrowed G) 5 rfl trivial ?_
      refine pj_lret dX4_narrowed_36 rfl ?_
      show _ = _ ∧ _ = _
      unfold fm_narrowed
      rw [if_neg hc2, if_pos hc14]
      exact ⟨rfl, rfl⟩
    · skip
      refine pj_J.go (oX4_narrowed G) 3 rfl trivial ?_
      refine pj_J.ite (fun hc26 => ?_) (fun hc26 => ?_)
      · skip
        refine pj_J.go (oX4_narrowed G) 4 rfl trivial ?_
        refine pj_lret dX4_narrowed_36 rfl ?_
        show _ = _ ∧ _ = _
        unfold fm_narrowed
        rw [if_neg hc2, if_neg hc14, if_pos hc26]
        exact ⟨rfl, rfl⟩
      · skip
        refine pj_J.go (oX4_narrowed G) 1 rfl trivial ?_
        refine pj_lret dX4_narrowed_36 rfl ?_
        show _ = _ ∧ _ = _
        unfold fm_narrowed
        rw [if_neg hc2, if_neg hc14, if_neg hc26]
        exact ⟨rfl, rfl⟩
def fm_act (m : sx_M) (p kd s t v : Int32) : Int32 × sx_M := if fm_isProgram m p = 0 then (-1, m) else if fm_in kd 0 12 = 0 then (-1, m) else if fm_in s 0 7 = 0 then (-1, m) else if fm_fits kd t v = 0 then (-1, m) else
  if sx_I m 8 p.toNatClampNeg = 20 then (-2, m) else
  (sx_I m 8 p.toNatClampNeg + 1, sx_sI (sx_sI (sx_sI (sx_sI (sx_sI m 9 (upd (sx_I m 9) (20 * p + sx_I m 8 p.toNatClampNeg).toNatClampNeg kd)) 10 (upd (sx_I m 10) (20 * p + sx_I m 8 p.toNatClampNeg).toNatClampNeg s)) 11 (upd (sx_I m 11) (20 * p + sx_I m 8 p.toNatClampNeg).toNatClampNeg t)) 12 (upd (sx_I m 12) (20 * p + sx_I m 8 p.toNatClampNeg).toNatClampNeg v)) 8 (upd (sx_I m 8) p.toNatClampNeg (sx_I m 8 p.toNatClampNeg + 1)))
theorem fm_isProgram_vp {m : sx_M} {p : Int32} (hp : vp_in (sx_i m 7) 5) (h : ¬ fm_isProgram m p = 0) : vp_in p 4 := by
  unfold fm_isProgram fm_in at h
  rw [pj_b_eq0] at h
  have h := Classical.not_not.mp h
  obtain ⟨j, hj, e⟩ := vp_in_of hp (by decide)
  rw [e] at h
  rw [vp_in_iff]
  have h0 : (0 : Int32).toInt = 0 := rfl
  match j, hj with
  | 0, _ => simp only [Int32.le_iff_toInt_le] at h; have : (nI 0 - 1).toInt = -1 := by decide
            omega
  | j + 1, hj =>
    rw [nI_pred] at h
    simp only [Int32.le_iff_toInt_le] at h
    rw [nI_toInt (by omega)] at h
    omega
theorem c_X4_act {G : pj_G} {d : Nat} {c : sx_C} {m : sx_M} {o : Nat → Int64} {D : pj_H} (p : Int32) (kd : Int32) (s : Int32) (t : Int32) (v : Int32) (hp : vp_in (sx_i m 7) 5) (ha : ∀ k, k < 4 → vp_in (sx_I m 8 k) 21) : pj_Rt G mX4_act (d + 2) [.ref 59, .int p, .int kd, .int s, .int t, .int v] (sx_mk c m o D) 0 0 (some (.int (fm_act m p kd s t v).1)) (sx_mk c (fm_act m p kd s t v).2 o D) := by
  refine pj_Cn.start ?_
  refine pj_J.go (oX4_act G) 2 rfl trivial ?_
  refine pj_J.cal0 kX4_act_2 (c_X4_isProgram _) ⟨_, _, _, rfl, rfl⟩ pj_le0 pj_le0 pj_le0 ?_
  refine pj_J.go (oX4_act G) 1 rfl trivial ?_
  refine pj_J.ite (fun hc5 => ?_) (fun hc5 => ?_)
  · skip
    refine pj_J.go (oX4_act G) 1 rfl trivial ?_
    refine pj_iret dX4_act_40 rfl ?_
    show _ = _ ∧ _ = _
    unfold fm_act
    rw [if_pos hc5]
    first
      | exact ⟨rfl, rfl⟩
      | exact ⟨by simp [upd], rfl⟩
  · skip
    refine pj_J.go (oX4_act G) 3 rfl trivial ?_
    refine pj_J.cal0 kX4_act_12 (c_X4_in _ _ _) trivial pj_le0 pj_le0 pj_le0 ?_
    refine pj_J.go (oX4_act G) 1 rfl trivial ?_
    refine pj_J.ite (fun hc15 => ?_) (fun hc15 => ?_)
    · skip
      refine pj_J.go (oX4_act G) 1 rfl trivial ?_
      refine pj_iret dX4_act_40 rfl ?_
      show _ = _ ∧ _ = _
      unfold fm_act
      rw [if_neg hc5, if_pos hc15]
      first
        | exact ⟨rfl, rfl⟩
        | exact ⟨by simp [upd], rfl⟩
    · skip
      refine pj_J.go (oX4_act G) 3 rfl trivial ?_
      refine pj_J.cal0 kX4_act_22 (c_X4_in _ _ _) trivial pj_le0 pj_le0 pj_le0 ?_
      refine pj_J.go (oX4_act G) 1 rfl trivial ?_
      refine pj_J.ite (fun hc25 => ?_) (fun hc25 => ?_)
      · skip
        refine pj_J.go (oX4_act G) 1 rfl trivial ?_
        refine pj_iret dX4_act_40 rfl ?_
        show _ = _ ∧ _ = _
        unfold fm_act
        rw [if_neg hc5, if_neg hc15, if_pos hc25]
        first
          | exact ⟨rfl, rfl⟩
          | exact ⟨by simp [upd], rfl⟩
      · skip
        refine pj_J.go (oX4_act G) 3 rfl trivial ?_
        refine pj_J.cal0 kX4_act_33 (c_X4_fits _ _ _) trivial pj_le0 pj_le0 pj_le0 ?_
        refine pj_J.go (oX4_act G) 1 rfl trivial ?_
        refine pj_J.ite (fun hc36 => ?_) (fun hc36 => ?_)
        · skip
          refine pj_J.go (oX4_act G) 1 rfl trivial ?_
          refine pj_iret dX4_act_40 rfl ?_
          show _ = _ ∧ _ = _
          unfold fm_act
          rw [if_neg hc5, if_neg hc15, if_neg hc25, if_pos hc36]
          first
            | exact ⟨rfl, rfl⟩
            | exact ⟨by simp [upd], rfl⟩
        · skip
          refine pj_J.go (oX4_act G) 6 rfl ⟨by exact fm_isProgram_vp hp hc5, trivial⟩ ?_
          refine pj_J.ite (fun hc49 => ?_) (fun hc49 => ?_)
          · skip
            refine pj_J.go (oX4_act G) 1 rfl trivial ?_
            refine pj_iret dX4_act_54 rfl ?_
            show _ = _ ∧ _ = _
            unfold fm_act
            rw [if_neg hc5, if_neg hc15, if_neg hc25, if_neg hc36, if_pos hc49]
            first
              | exact ⟨rfl, rfl⟩
              | exact ⟨by simp [upd], rfl⟩
          · skip
            refine pj_J.go (oX4_act G) 41 rfl ⟨by exact fm_isProgram_vp hp hc5, by exact vp_row (p := 4) (q := 20) (fm_isProgram_vp hp hc5) (vp_up (n := 20) (ha _ (vp_lt (fm_isProgram_vp hp hc5))) hc49) (by decide), by exact vp_row (p := 4) (q := 20) (fm_isProgram_vp hp hc5) (vp_up (n := 20) (ha _ (vp_lt (fm_isProgram_vp hp hc5))) hc49) (by decide), by exact vp_row (p := 4) (q := 20) (fm_isProgram_vp hp hc5) (vp_up (n := 20) (ha _ (vp_lt (fm_isProgram_vp hp hc5))) hc49) (by decide), by exact vp_row (p := 4) (q := 20) (fm_isProgram_vp hp hc5) (vp_up (n := 20) (ha _ (vp_lt (fm_isProgram_vp hp hc5))) hc49) (by decide), by exact fm_isProgram_vp hp hc5, by exact fm_isProgram_vp hp hc5, by exact fm_isProgram_vp hp hc5, trivial⟩ ?_
            refine pj_iret dX4_act_118 rfl ?_
            show _ = _ ∧ _ = _
            unfold fm_act
            rw [if_neg hc5, if_neg hc15, if_neg hc25, if_neg hc36, if_neg hc49]
            first
              | exact ⟨rfl, rfl⟩
              | exact ⟨by simp [upd], rfl⟩
def fm_isAct (m : sx_M) (p i : Int32) : Int32 := if fm_isProgram m p = 0 then 0 else if fm_in i 0 (sx_I m 8 p.toNatClampNeg - 1) = 0 then 0 else 1
theorem c_X4_isAct {G : pj_G} {d : Nat} {c : sx_C} {m : sx_M} {o : Nat → Int64} {D : pj_H} (p : Int32) (i : Int32) (hp : vp_in (sx_i m 7) 5) : pj_Rt G mX4_isAct (d + 2) [.ref 59, .int p, .int i] (sx_mk c m o D) 0 0 (some (.int (fm_isAct m p i))) (sx_mk c m o D) := by
  refine pj_Cn.start ?_
  refine pj_J.go (oX4_isAct G) 2 rfl trivial ?_
  refine pj_J.cal0 kX4_isAct_2 (c_X4_isProgram _) ⟨_, _, _, rfl, rfl⟩ pj_le0 pj_le0 pj_le0 ?_
  refine pj_J.go (oX4_isAct G) 1 rfl trivial ?_
  refine pj_J.ite (fun hc5 => ?_) (fun hc5 => ?_)
  · skip
    refine pj_J.go (oX4_isAct G) 1 rfl trivial ?_
    refine pj_zret dX4_isAct_29 rfl (by first | exact Or.inl rfl | exact Or.inr rfl | exact pj_b01 _) ?_
    show _ = _ ∧ _ = _
    unfold fm_isAct
    rw [if_pos hc5]
    exact ⟨rfl, rfl⟩
  · skip
    refine pj_J.go (oX4_isAct G) 8 rfl ⟨by exact fm_isProgram_vp hp hc5, trivial⟩ ?_
    refine pj_J.cal0 kX4_isAct_18 (c_X4_in _ _ _) trivial pj_le0 pj_le0 pj_le0 ?_
    refine pj_J.go (oX4_isAct G) 1 rfl trivial ?_
    refine pj_J.ite (fun hc21 => ?_) (fun hc21 => ?_)
    · skip
      refine pj_J.go (oX4_isAct G) 1 rfl trivial ?_
      refine pj_zret dX4_isAct_29 rfl (by first | exact Or.inl rfl | exact Or.inr rfl | exact pj_b01 _) ?_
      show _ = _ ∧ _ = _
      unfold fm_isAct
      rw [if_neg hc5, if_pos hc21]
      exact ⟨rfl, rfl⟩
    · skip
      refine pj_J.go (oX4_isAct G) 2 rfl trivial ?_
      refine pj_zret dX4_isAct_29 rfl (by first | exact Or.inl rfl | exact Or.inr rfl | exact pj_b01 _) ?_
      show _ = _ ∧ _ = _
      unfold fm_isAct
      rw [if_neg hc5, if_neg hc21]
      exact ⟨rfl, rfl⟩
theorem fm_isAct_vp {m : sx_M} {p i : Int32} (hp : vp_in (sx_i m 7) 5) (ha : ∀ k, k < 4 → vp_in (sx_I m 8 k) 21) (h : ¬ fm_isAct m p i = 0) : vp_in p 4 ∧ vp_in i 20 := by
  unfold fm_isAct at h
  split at h
  · exact absurd rfl h
  · rename_i h1
    have hv := fm_isProgram_vp hp h1
    split at h
    · exact absurd rfl h
    · rename_i h2
      refine ⟨hv, ?_⟩
      unfold fm_in at h2
      rw [pj_b_eq0] at h2
      have h2 := Classical.not_not.mp h2
      obtain ⟨j, hj, e⟩ := vp_in_of (ha _ (vp_lt hv)) (by decide)
      rw [e] at h2
      rw [vp_in_iff]
      have h0 : (0 : Int32).toInt = 0 := rfl
      match j, hj with
      | 0, _ => simp only [Int32.le_iff_toInt_le] at h2; have : (nI 0 - 1).toInt = -1 := by decide
                omega
      | j + 1, hj =>
        rw [nI_pred] at h2
        simp only [Int32.le_iff_toInt_le] at h2
        rw [nI_toInt (by omega)] at h2
        omega
def fm_set (m : sx_M) (p i t v : Int32) : Int32 × sx_M := if fm_isAct m p i = 0 then (-1, m) else if fm_fits (sx_I m 9 (20 * p + i).toNatClampNeg) t v = 0 then (-1, m) else
  (0, sx_sI (sx_sI m 11 (upd (sx_I m 11) (20 * p + i).toNatClampNeg t)) 12 (upd (sx_I m 12) (20 * p + i).toNatClampNeg v))
theorem c_X4_set {G : pj_G} {d : Nat} {c : sx_C} {m : sx_M} {o : Nat → Int64} {D : pj_H} (p : Int32) (i : Int32) (t : Int32) (v : Int32) (hp : vp_in (sx_i m 7) 5) (ha : ∀ k, k < 4 → vp_in (sx_I m 8 k) 21) : pj_Rt G mX4_set (d + 3) [.ref 59, .int p, .int i, .int t, .int v] (sx_mk c m o D) 0 0 (some (.int (fm_set m p i t v).1)) (sx_mk c (fm_set m p i t v).2 o D) := by
  refine pj_Cn.start ?_
  refine pj_J.go (oX4_set G) 3 rfl trivial ?_
  refine pj_J.cal0 kX4_set_3 (c_X4_isAct _ _ hp) ⟨_, _, _, rfl, rfl⟩ pj_le0 pj_le0 pj_le0 ?_
  refine pj_J.go (oX4_set G) 1 rfl trivial ?_
  refine pj_J.ite (fun hc6 => ?_) (fun hc6 => ?_)
  · skip
    refine pj_J.go (oX4_set G) 1 rfl trivial ?_
    refine pj_iret dX4_set_30 rfl ?_
    show _ = _ ∧ _ = _
    unfold fm_set
    rw [if_pos hc6]
    exact ⟨rfl, rfl⟩
  · skip
    refine pj_J.go (oX4_set G) 10 rfl ⟨by exact vp_row (p := 4) (q := 20) (fm_isAct_vp hp ha hc6).1 (fm_isAct_vp hp ha hc6).2 (by decide), trivial⟩ ?_
    refine pj_J.cal0 kX4_set_23 (c_X4_fits _ _ _) trivial pj_le0 pj_le0 pj_le0 ?_
    refine pj_J.go (oX4_set G) 1 rfl trivial ?_
    refine pj_J.ite (fun hc26 => ?_) (fun hc26 => ?_)
    · skip
      refine pj_J.go (oX4_set G) 1 rfl trivial ?_
      refine pj_iret dX4_set_30 rfl ?_
      show _ = _ ∧ _ = _
      unfold fm_set
      rw [if_neg hc6, if_pos hc26]
      exact ⟨rfl, rfl⟩
    · skip
      refine pj_J.go (oX4_set G) 19 rfl ⟨by exact vp_row (p := 4) (q := 20) (fm_isAct_vp hp ha hc6).1 (fm_isAct_vp hp ha hc6).2 (by decide), by exact vp_row (p := 4) (q := 20) (fm_isAct_vp hp ha hc6).1 (fm_isAct_vp hp ha hc6).2 (by decide), trivial⟩ ?_
      refine pj_iret dX4_set_57 rfl ?_
      show _ = _ ∧ _ = _
      unfold fm_set
      rw [if_neg hc6, if_neg hc26]
      exact ⟨rfl, rfl⟩
def fm_told (m : sx_M) (p i w : Int32) : Int32 := if fm_isAct m p i = 0 then -1 else if w = 0 then sx_I m 9 (20 * p + i).toNatClampNeg else if w = 1 then sx_I m 10 (20 * p + i).toNatClampNeg else if w = 2 then sx_I m 11 (20 * p + i).toNatClampNeg else if w = 3 then sx_I m 12 (20 * p + i).toNatClampNeg else -1
theorem c_X4_told {G : pj_G} {d : Nat} {c : sx_C} {m : sx_M} {o : Nat → Int64} {D : pj_H} (p : Int32) (i : Int32) (w : Int32) (hp : vp_in (sx_i m 7) 5) (ha : ∀ k, k < 4 → vp_in (sx_I m 8 k) 21) : pj_Rt G mX4_told (d + 3) [.ref 59, .int p, .int i, .int w] (sx_mk c m o D) 0 0 (some (.int (fm_told m p i w))) (sx_mk c m o D) := by
  refine pj_Cn.start ?_
  refine pj_J.go (oX4_told G) 3 rfl trivial ?_
  refine pj_J.cal0 kX4_told_3 (c_X4_isAct _ _ hp) ⟨_, _, _, rfl, rfl⟩ pj_le0 pj_le0 pj_le0 ?_
  refine pj_J.go (oX4_told G) 1 rfl trivial ?_
  refine pj_J.ite (fun hc6 => ?_) (fun hc6 => ?_)
  · skip
    refine pj_J.go (oX4_told G) 1 rfl trivial ?_
    refine pj_iret dX4_told_10 rfl ?_
    show _ = _ ∧ _ = _
    unfold fm_told
    rw [if_pos hc6]
    exact ⟨rfl, rfl⟩
  · skip
    refine pj_J.go (oX4_told G) 8 rfl trivial ?_
    refine pj_J.ite (fun hc20 => ?_) (fun hc20 => ?_)
    · skip
      refine pj_J.go (oX4_told G) 5 rfl ⟨by exact vp_row (p := 4) (q := 20) (fm_isAct_vp hp ha hc6).1 (fm_isAct_vp hp ha hc6).2 (by decide), trivial⟩ ?_
      refine pj_iret dX4_told_79 rfl ?_
      show _ = _ ∧ _ = _
      unfold fm_told
      rw [if_neg hc6, if_pos hc20]
      exact ⟨rfl, rfl⟩
    · skip
      refine pj_J.go (oX4_told G) 3 rfl trivial ?_
      refine pj_J.ite (fun hc35 => ?_) (fun hc35 => ?_)
      · skip
        refine pj_J.go (oX4_told G) 5 rfl ⟨by exact vp_row (p := 4) (q := 20) (fm_isAct_vp hp ha hc6).1 (fm_isAct_vp hp ha hc6).2 (by decide), trivial⟩ ?_
        refine pj_iret dX4_told_79 rfl ?_
        show _ = _ ∧ _ = _
        unfold fm_told
        rw [if_neg hc6, if_neg hc20, if_pos hc35]
        exact ⟨rfl, rfl⟩
      · skip
        refine pj_J.go (oX4_told G) 3 rfl trivial ?_
        refine pj_J.ite (fun hc50 => ?_) (fun hc50 => ?_)
        · skip
          refine pj_J.go (oX4_told G) 5 rfl ⟨by exact vp_row (p := 4) (q := 20) (fm_isAct_vp hp ha hc6).1 (fm_isAct_vp hp ha hc6).2 (by decide), trivial⟩ ?_
          refine pj_iret dX4_told_79 rfl ?_
          show _ = _ ∧ _ = _
          unfold fm_told
          rw [if_neg hc6, if_neg hc20, if_neg hc35, if_pos hc50]
          exact ⟨rfl, rfl⟩
        · skip
          refine pj_J.go (oX4_told G) 3 rfl trivial ?_
          refine pj_J.ite (fun hc65 => ?_) (fun hc65 => ?_)
          · skip
            refine pj_J.go (oX4_told G) 5 rfl ⟨by exact vp_row (p := 4) (q := 20) (fm_isAct_vp hp ha hc6).1 (fm_isAct_vp hp ha hc6).2 (by decide), trivial⟩ ?_
            refine pj_iret dX4_told_79 rfl ?_
            show _ = _ ∧ _ = _
            unfold fm_told
            rw [if_neg hc6, if_neg hc20, if_neg hc35, if_neg hc50, if_pos hc65]
            exact ⟨rfl, rfl⟩
          · skip
            refine pj_J.go (oX4_told G) 1 rfl trivial ?_
            refine pj_iret dX4_told_79 rfl ?_
            show _ = _ ∧ _ = _
            unfold fm_told
            rw [if_neg hc6, if_neg hc20, if_neg hc35, if_neg hc50, if_neg hc65]
            exact ⟨rfl, rfl⟩
def fm_isRefused (m : sx_M) (g : Int32) : Int32 × sx_M := if g = 0 then (1, sx_si m 0 1) else (0, sx_si m 0 0)
theorem c_X4_isRefused {G : pj_G} {d : Nat} {c : sx_C} {m : sx_M} {o : Nat → Int64} {D : pj_H} (g : Int32)  : pj_Rt G mX4_isRefused (d) [.ref 59, .int g] (sx_mk c m o D) 0 0 (some (.int (fm_isRefused m g).1)) (sx_mk c (fm_isRefused m g).2 o D) := by
  refine pj_Cn.start ?_
  refine pj_J.go (oX4_isRefused G) 3 rfl trivial ?_
  refine pj_J.ite (fun hc2 => ?_) (fun hc2 => ?_)
  · skip
    refine pj_J.go (oX4_isRefused G) 4 rfl trivial ?_
    refine pj_J.ite (fun hc14 => ?_) (fun hc14 => ?_)
    · skip
      refine pj_J.go (oX4_isRefused G) 2 rfl trivial ?_
      refine pj_zret dX4_isRefused_22 rfl (by first | exact Or.inl rfl | exact Or.inr rfl | exact pj_b01 _) ?_
      show _ = _ ∧ _ = _
      unfold fm_isRefused
      first
        | exact absurd hc2 hc14
        | exact absurd hc14 hc2
        | (rw [if_pos hc2]; exact ⟨rfl, rfl⟩)
        | (rw [if_neg hc2]; exact ⟨rfl, rfl⟩)
    · skip
      refine pj_J.go (oX4_isRefused G) 1 rfl trivial ?_
      refine pj_zret dX4_isRefused_22 rfl (by first | exact Or.inl rfl | exact Or.inr rfl | exact pj_b01 _) ?_
      show _ = _ ∧ _ = _
      unfold fm_isRefused
      first
        | exact absurd hc2 hc14
        | exact absurd hc14 hc2
        | (rw [if_pos hc2]; exact ⟨rfl, rfl⟩)
        | (rw [if_neg hc2]; exact ⟨rfl, rfl⟩)
  · skip
    refine pj_J.go (oX4_isRefused G) 5 rfl trivial ?_
    refine pj_J.ite (fun hc14 => ?_) (fun hc14 => ?_)
    · skip
      refine pj_J.go (oX4_isRefused G) 2 rfl trivial ?_
      refine pj_zret dX4_isRefused_22 rfl (by first | exact Or.inl rfl | exact Or.inr rfl | exact pj_b01 _) ?_
      show _ = _ ∧ _ = _
      unfold fm_isRefused
      first
        | exact absurd hc2 hc14
        | exact absurd hc14 hc2
        | (rw [if_pos hc2]; exact ⟨rfl, rfl⟩)
        | (rw [if_neg hc2]; exact ⟨rfl, rfl⟩)
    · skip
      refine pj_J.go (oX4_isRefused G) 1 rfl trivial ?_
      refine pj_zret dX4_isRefused_22 rfl (by first | exact Or.inl rfl | exact Or.inr rfl | exact pj_b01 _) ?_
      show _ = _ ∧ _ = _
      unfold fm_isRefused
      first
        | exact absurd hc2 hc14
        | exact absurd hc14 hc2
        | (rw [if_pos hc2]; exact ⟨rfl, rfl⟩)
        | (rw [if_neg hc2]; exact ⟨rfl, rfl⟩)
theorem fm_isRefused_0 {m : sx_M} {g : Int32} (h : (fm_isRefused m g).1 = 0) : ¬ g = 0 := by
  intro q
  unfold fm_isRefused at h
  rw [if_pos q] at h
  exact absurd h (show ¬ (1 : Int32) = 0 by decide)
def fm_account (m : sx_M) (k : Int32) : Int64 × sx_M := if (fm_isRefused m (fm_in k 0 7)).1 = 0 then (sx_L m 23 k.toNatClampNeg, (fm_isRefused m (fm_in k 0 7)).2) else (0, (fm_isRefused m (fm_in k 0 7)).2)
theorem c_X4_account {G : pj_G} {d : Nat} {c : sx_C} {m : sx_M} {o : Nat → Int64} {D : pj_H} (k : Int32)  : pj_Rt G mX4_account (d + 1) [.ref 59, .int k] (sx_mk c m o D) 0 0 (some (.long (fm_account m k).1)) (sx_mk c (fm_account m k).2 o D) := by
  refine pj_Cn.start ?_
  refine pj_J.go (oX4_account G) 4 rfl trivial ?_
  refine pj_J.cal0 kX4_account_5 (c_X4_in _ _ _) trivial pj_le0 pj_le0 pj_le0 ?_
  refine pj_J.cal0 kX4_account_8 (c_X4_isRefused _) ⟨_, _, _, rfl, rfl⟩ pj_le0 pj_le0 pj_le0 ?_
  refine pj_J.go (oX4_account G) 1 rfl trivial ?_
  refine pj_J.ite (fun hc11 => ?_) (fun hc11 => ?_)
  · skip
    refine pj_J.go (oX4_account G) 4 rfl ⟨by exact vp_mono (fm_in_vp (n := 7) (fm_isRefused_0 hc11)) (by decide), trivial⟩ ?_
    refine pj_lret dX4_account_24 rfl ?_
    show _ = _ ∧ _ = _
    unfold fm_account
    rw [if_pos hc11]
    refine ⟨?_, rfl⟩
    first
      | rfl
      | (unfold fm_isRefused; split <;> rfl)
  · skip
    refine pj_J.go (oX4_account G) 2 rfl trivial ?_
    refine pj_lret dX4_account_24 rfl ?_
    show _ = _ ∧ _ = _
    unfold fm_account
    rw [if_neg hc11]
    refine ⟨?_, rfl⟩
    first
      | rfl
      | (unfold fm_isRefused; split <;> rfl)
def fm_part (m : sx_M) (k : Int32) : Int64 × sx_M := if (fm_isRefused m (fm_in k 0 7)).1 = 0 then (sx_L m 21 k.toNatClampNeg, (fm_isRefused m (fm_in k 0 7)).2) else (0, (fm_isRefused m (fm_in k 0 7)).2)
theorem c_X4_part {G : pj_G} {d : Nat} {c : sx_C} {m : sx_M} {o : Nat → Int64} {D : pj_H} (k : Int32)  : pj_Rt G mX4_part (d + 1) [.ref 59, .int k] (sx_mk c m o D) 0 0 (some (.long (fm_part m k).1)) (sx_mk c (fm_part m k).2 o D) := by
  refine pj_Cn.start ?_
  refine pj_J.go (oX4_part G) 4 rfl trivial ?_
  refine pj_J.cal0 kX4_part_5 (c_X4_in _ _ _) trivial pj_le0 pj_le0 pj_le0 ?_
  refine pj_J.cal0 kX4_part_8 (c_X4_isRefused _) ⟨_, _, _, rfl, rfl⟩ pj_le0 pj_le0 pj_le0 ?_
  refine pj_J.go (oX4_part G) 1 rfl trivial ?_
  refine pj_J.ite (fun hc11 => ?_) (fun hc11 => ?_)
  · skip
    refine pj_J.go (oX4_part G) 4 rfl ⟨by exact vp_mono (fm_in_vp (n := 7) (fm_isRefused_0 hc11)) (by decide), trivial⟩ ?_
    refine pj_lret dX4_part_24 rfl ?_
    show _ = _ ∧ _ = _
    unfold fm_part
    rw [if_pos hc11]
    refine ⟨?_, rfl⟩
    first
      | rfl
      | (unfold fm_isRefused; split <;> rfl)
  · skip
    refine pj_J.go (oX4_part G) 2 rfl trivial ?_
    refine pj_lret dX4_part_24 rfl ?_
    show _ = _ ∧ _ = _
    unfold fm_part
    rw [if_neg hc11]
    refine ⟨?_, rfl⟩
    first
      | rfl
      | (unfold fm_isRefused; split <;> rfl)
def fm_got (m : sx_M) (k : Int32) : Int64 × sx_M := if (fm_isRefused m (fm_in k 0 11)).1 = 0 then (sx_L m 22 k.toNatClampNeg, (fm_isRefused m (fm_in k 0 11)).2) else (0, (fm_isRefused m (fm_in k 0 11)).2)
theorem c_X4_got {G : pj_G} {d : Nat} {c : sx_C} {m : sx_M} {o : Nat → Int64} {D : pj_H} (k : Int32)  : pj_Rt G mX4_got (d + 1) [.ref 59, .int k] (sx_mk c m o D) 0 0 (some (.long (fm_got m k).1)) (sx_mk c (fm_got m k).2 o D) := by
  refine pj_Cn.start ?_
  refine pj_J.go (oX4_got G) 4 rfl trivial ?_
  refine pj_J.cal0 kX4_got_5 (c_X4_in _ _ _) trivial pj_le0 pj_le0 pj_le0 ?_
  refine pj_J.cal0 kX4_got_8 (c_X4_isRefused _) ⟨_, _, _, rfl, rfl⟩ pj_le0 pj_le0 pj_le0 ?_
  refine pj_J.go (oX4_got G) 1 rfl trivial ?_
  refine pj_J.ite (fun hc11 => ?_) (fun hc11 => ?_)
  · skip
    refine pj_J.go (oX4_got G) 4 rfl ⟨by exact vp_mono (fm_in_vp (n := 11) (fm_isRefused_0 hc11)) (by decide), trivial⟩ ?_
    refine pj_lret dX4_got_24 rfl ?_
    show _ = _ ∧ _ = _
    unfold fm_got
    rw [if_pos hc11]
    refine ⟨?_, rfl⟩
    first
      | rfl
      | (unfold fm_isRefused; split <;> rfl)
  · skip
    refine pj_J.go (oX4_got G) 2 rfl trivial ?_
    refine pj_lret dX4_got_24 rfl ?_
    show _ = _ ∧ _ = _
    unfold fm_got
    rw [if_neg hc11]
    refine ⟨?_, rfl⟩
    first
      | rfl
      | (unfold fm_isRefused; split <;> rfl)
def fm_slotG (s w : Int32) : Int32 := if fm_in s 0 7 = 0 then 0 else if fm_in w 0 2 = 0 then 0 else 1
def fm_slotV (r : sx_M) (s w : Int32) : Int64 × sx_M := (if w = 0 then sx_L r 19 s.toNatClampNeg else if w = 1 then sx_L r 20 s.toNatClampNeg else if sx_I r 26 s.toNatClampNeg = 0 then 0 else 1, r)
def fm_slot (m : sx_M) (s w : Int32) : Int64 × sx_M := if (fm_isRefused m (fm_slotG s w)).1 = 0 then fm_slotV (fm_isRefused m (fm_slotG s w)).2 s w else (0, (fm_isRefused m (fm_slotG s w)).2)
