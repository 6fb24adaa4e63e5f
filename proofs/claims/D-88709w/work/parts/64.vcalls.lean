/-! virtual calls of acts, moving cells (by tools/gen_v1.py) -/
set_option maxRecDepth 100000
theorem pj_selUp {C owner : String} {x y : MethodName} {args : Array Value} {s : State} (hsel : (Cond.selects C ⟨owner, x.name, x.desc⟩ y).before args s = true) (hsame : (Cond.sameMethod x.cls owner x.name x.desc).before args s = true) (ho : owner ≠ "java/lang/invoke/MethodHandle" ∧ owner ≠ "java/lang/invoke/VarHandle") : (Cond.selects C x y).before args s = true := by
  obtain ⟨cn, ck, r1, hcn, hck, hni, hf, hn1⟩ := Cond.sameMethod_found hsame
  have h2 := State.methodFound?_of_named hn1 ho
  simp only [Cond.before, Cond.holds, Cond.value] at hsel ⊢
  rw [hf]
  rw [h2] at hsel
  exact hsel
theorem pc_D {mt my : pj_M} {pc n index ci : Nat} {C owner : String} {x : MethodName} {T : u_T} {N : Nat} (hd : decode mt.2.1 pc = .ok (.invokevirtual index, 3)) (hM : pj_MS my n) (hci : ci < 90) (hcl : pj_cl[ci]? = some (C, T, N)) (hl : Cond.methodLink mt.1.cls index x ∈ lw_all ∨ Cond.methodLink mt.1.cls index x ∈ pj_extW) (hsm : Cond.sameMethod x.cls owner x.name x.desc ∈ lw_all ∨ Cond.sameMethod x.cls owner x.name x.desc ∈ pj_extW) (hi : Cond.instanceMethod my.1 ∈ lw_all) (hs : Cond.selects C ⟨owner, x.name, x.desc⟩ my.1 ∈ lw_all) (hz : Cond.declares ⟨owner, x.name, x.desc⟩ ∈ pj_ext) (ho : owner ≠ "java/lang/invoke/MethodHandle" ∧ owner ≠ "java/lang/invoke/VarHandle" ∧ (parseMethodDescriptor x.desc).map (fun d => d.parameters.length) = some n) : pj_CA mt my pc (n + 1) (pj_rc ci) := by
  refine ⟨hM.1, ?_⟩
  intro G p l e R s m args below meth c H locs cells slots ls h as rest d k1 s1 Q hC hR hls hok hn hw hc1 hs1 hMet
  obtain ⟨y1, y2, y3, y4, y5⟩ := hM
  have hts := hC.2.2.2.2.2.2.2.1
  obtain ⟨-, -, -, -, -, -, -, -, -, hfr, hlo, hfl⟩ := id hC
  obtain ⟨b, fs, As, rfl, hb⟩ := hok
  have hK := hC.2.2.2.2.2.2.2.2.1
  have hp := pj_pre (as := .ref b :: As) hR hK hfl
  have hts1 : ∀ w ∈ lw_all ++ pj_extW, w.before args s = true := by
    intro w hw
    rcases List.mem_append.mp hw with hw | hw
    · exact hts w hw
    · exact va_Nw.use (pj_extW_on w hw) (hK.2.1 _ (pj_extW_in w hw))
  have hsm1 : (Cond.sameMethod x.cls owner x.name x.desc).before args s = true := hts1 _ (List.mem_append.mpr hsm)
  have hts2 : ∀ w ∈ (lw_all ++ pj_extW) ++ [Cond.selects C x my.1], w.before args s = true := by
    intro w hw
    rcases List.mem_append.mp hw with hw | hw
    · exact hts1 w hw
    · rw [List.mem_singleton.mp hw]
      exact pj_selUp (hts _ hs) hsm1 ⟨ho.1, ho.2.1⟩
  have hG : ∀ w : Cond, (w ∈ lw_all ∨ w ∈ pj_extW) → w ∈ (lw_all ++ pj_extW) ++ [Cond.selects C x my.1] ∧ ((w.onTables && w.keeps) = true ∨ ∃ ty, w = .arrayClass ty) := by
    intro w hw
    rcases hw with hw | hw
    · exact ⟨List.mem_append_left _ (List.mem_append_left _ hw), (lw_self w hw).2⟩
    · exact ⟨List.mem_append_left _ (List.mem_append_right _ hw), pj_extW_good w hw⟩
  have hGood : GoodIn ((lw_all ++ pj_extW) ++ [Cond.selects C x my.1]) (va_wsU mt.1.cls index C owner x my.1 (ws_ my.1 my.2.1 my.2.2.1 my.2.2.2)) := by
    intro w hw
    unfold va_wsU at hw
    rcases List.mem_append.mp hw with hw | hw
    · simp only [List.mem_cons, List.not_mem_nil, or_false] at hw
      rcases hw with e | e | e | e | e
      · rw [e]; exact hG _ hl
      · rw [e]; exact hG _ hsm
      · rw [e]; exact ⟨List.mem_append_right _ (List.mem_singleton.mpr rfl), Or.inl rfl⟩
      · rw [e]; exact hG _ (Or.inl hi)
      · rw [e]; exact hG _ (Or.inl y5)
    · rcases List.mem_cons.mp hw with e | e
      · rw [e]; exact hG _ (Or.inl y4)
      · exact hG _ (Or.inl e)
  refine va_runU (As := As.map (pj_v G)) (b := pj_ad G b) (C := C) (owner := owner) (x := x) (n := n) (Ts := (lw_all ++ pj_extW) ++ [Cond.selects C x my.1]) (own := mt.1.cls) (index := index) (cc := mt.2.1) (nL := mt.2.2.1) ⟨hC.1, hC.2.1, hC.2.2.1, hC.2.2.2.2.2.1, hts2⟩ hMet (va_cwA n hts2 hGood rfl rfl rfl (hK.2.1 _ hz) ho ⟨?_, ?_⟩) ⟨hp.1, pj_recv hR hK hb hci hcl, hp.2⟩ rfl (by rw [List.length_map]; simpa using hn) hls ?_ ?_ hd ⟨hc1, hs1⟩
  · show d + 8 + 1 ≤ R.frames; omega
  · show 8 + (my.2.2.1 + 11) + (10400 + 200 * d) ≤ R.locals; omega
  · show ((Value.ref b :: As).reverse ++ rest).map (pj_v G) = _
    simp [pj_v]
  · show 2 * 0 + _ ≤ 8
    rw [pj_cats]; omega
theorem kX1_run_121_X7 : pj_CA mX1_run mX7_does 121 2 (pj_rc 5) := pc_D (owner := "PennyJudge$Done") (x := ⟨"PennyJudge$Act", "does", "(LPennyJudge$Run;)I"⟩) dX1_run_121 msX7_does (by decide) rfl (Or.inr (List.mem_of_getElem? (i := 0) rfl)) (Or.inr (List.mem_of_getElem? (i := 1) rfl)) q766 q765 (pj_xD 0 rfl) ⟨by decide, by decide, by decide +kernel⟩
theorem kX1_run_121_X8 : pj_CA mX1_run mX8_does 121 2 (pj_rc 6) := pc_D (owner := "PennyJudge$Done") (x := ⟨"PennyJudge$Act", "does", "(LPennyJudge$Run;)I"⟩) dX1_run_121 msX8_does (by decide) rfl (Or.inr (List.mem_of_getElem? (i := 0) rfl)) (Or.inr (List.mem_of_getElem? (i := 1) rfl)) q775 q774 (pj_xD 0 rfl) ⟨by decide, by decide, by decide +kernel⟩
theorem kX1_run_121_X9 : pj_CA mX1_run mX9_does 121 2 (pj_rc 7) := pc_D (owner := "PennyJudge$Done") (x := ⟨"PennyJudge$Act", "does", "(LPennyJudge$Run;)I"⟩) dX1_run_121 msX9_does (by decide) rfl (Or.inr (List.mem_of_getElem? (i := 0) rfl)) (Or.inr (List.mem_of_getElem? (i := 1) rfl)) q709 q708 (pj_xD 0 rfl) ⟨by decide, by decide, by decide +kernel⟩
theorem kX1_run_121_X10 : pj_CA mX1_run mX10_does 121 2 (pj_rc 8) := pc_D (owner := "PennyJudge$Done") (x := ⟨"PennyJudge$Act", "does", "(LPennyJudge$Run;)I"⟩) dX1_run_121 msX10_does (by decide) rfl (Or.inr (List.mem_of_getElem? (i := 0) rfl)) (Or.inr (List.mem_of_getElem? (i := 1) rfl)) q726 q725 (pj_xD 0 rfl) ⟨by decide, by decide, by decide +kernel⟩
theorem kX1_run_121_X11 : pj_CA mX1_run mX11_does 121 2 (pj_rc 9) := pc_D (owner := "PennyJudge$Done") (x := ⟨"PennyJudge$Act", "does", "(LPennyJudge$Run;)I"⟩) dX1_run_121 msX11_does (by decide) rfl (Or.inr (List.mem_of_getElem? (i := 0) rfl)) (Or.inr (List.mem_of_getElem? (i := 1) rfl)) q735 q734 (pj_xD 0 rfl) ⟨by decide, by decide, by decide +kernel⟩
theorem kX1_run_121_X12 : pj_CA mX1_run mX12_does 121 2 (pj_rc 10) := pc_D (owner := "PennyJudge$Done") (x := ⟨"PennyJudge$Act", "does", "(LPennyJudge$Run;)I"⟩) dX1_run_121 msX12_does (by decide) rfl (Or.inr (List.mem_of_getElem? (i := 0) rfl)) (Or.inr (List.mem_of_getElem? (i := 1) rfl)) q654 q653 (pj_xD 0 rfl) ⟨by decide, by decide, by decide +kernel⟩
theorem kX1_run_121_X13 : pj_CA mX1_run mX13_does 121 2 (pj_rc 11) := pc_D (owner := "PennyJudge$Done") (x := ⟨"PennyJudge$Act", "does", "(LPennyJudge$Run;)I"⟩) dX1_run_121 msX13_does (by decide) rfl (Or.inr (List.mem_of_getElem? (i := 0) rfl)) (Or.inr (List.mem_of_getElem? (i := 1) rfl)) q748 q747 (pj_xD 0 rfl) ⟨by decide, by decide, by decide +kernel⟩
theorem kX1_run_121_X14 : pj_CA mX1_run mX14_does 121 2 (pj_rc 12) := pc_D (owner := "PennyJudge$Done") (x := ⟨"PennyJudge$Act", "does", "(LPennyJudge$Run;)I"⟩) dX1_run_121 msX14_does (by decide) rfl (Or.inr (List.mem_of_getElem? (i := 0) rfl)) (Or.inr (List.mem_of_getElem? (i := 1) rfl)) q719 q718 (pj_xD 0 rfl) ⟨by decide, by decide, by decide +kernel⟩
theorem kX1_run_121_X15 : pj_CA mX1_run mX15_does 121 2 (pj_rc 13) := pc_D (owner := "PennyJudge$Done") (x := ⟨"PennyJudge$Act", "does", "(LPennyJudge$Run;)I"⟩) dX1_run_121 msX15_does (by decide) rfl (Or.inr (List.mem_of_getElem? (i := 0) rfl)) (Or.inr (List.mem_of_getElem? (i := 1) rfl)) q685 q684 (pj_xD 0 rfl) ⟨by decide, by decide, by decide +kernel⟩
theorem kX1_run_121_X16 : pj_CA mX1_run mX16_does 121 2 (pj_rc 14) := pc_D (owner := "PennyJudge$Done") (x := ⟨"PennyJudge$Act", "does", "(LPennyJudge$Run;)I"⟩) dX1_run_121 msX16_does (by decide) rfl (Or.inr (List.mem_of_getElem? (i := 0) rfl)) (Or.inr (List.mem_of_getElem? (i := 1) rfl)) q681 q680 (pj_xD 0 rfl) ⟨by decide, by decide, by decide +kernel⟩
theorem kX1_run_121_X17 : pj_CA mX1_run mX17_does 121 2 (pj_rc 15) := pc_D (owner := "PennyJudge$Done") (x := ⟨"PennyJudge$Act", "does", "(LPennyJudge$Run;)I"⟩) dX1_run_121 msX17_does (by decide) rfl (Or.inr (List.mem_of_getElem? (i := 0) rfl)) (Or.inr (List.mem_of_getElem? (i := 1) rfl)) q674 q673 (pj_xD 0 rfl) ⟨by decide, by decide, by decide +kernel⟩
theorem kX1_run_121_X18 : pj_CA mX1_run mX18_does 121 2 (pj_rc 16) := pc_D (owner := "PennyJudge$Done") (x := ⟨"PennyJudge$Act", "does", "(LPennyJudge$Run;)I"⟩) dX1_run_121 msX18_does (by decide) rfl (Or.inr (List.mem_of_getElem? (i := 0) rfl)) (Or.inr (List.mem_of_getElem? (i := 1) rfl)) q740 q739 (pj_xD 0 rfl) ⟨by decide, by decide, by decide +kernel⟩
theorem kX1_run_121_X19 : pj_CA mX1_run mX19_does 121 2 (pj_rc 17) := pc_D (owner := "PennyJudge$Done") (x := ⟨"PennyJudge$Act", "does", "(LPennyJudge$Run;)I"⟩) dX1_run_121 msX19_does (by decide) rfl (Or.inr (List.mem_of_getElem? (i := 0) rfl)) (Or.inr (List.mem_of_getElem? (i := 1) rfl)) q692 q691 (pj_xD 0 rfl) ⟨by decide, by decide, by decide +kernel⟩
theorem kX5_run_21_X7 : pj_CA mX5_run mX7_does 21 2 (pj_rc 5) := pc_D (owner := "PennyJudge$Done") (x := ⟨"PennyJudge$Act", "does", "(LPennyJudge$Run;)I"⟩) dX5_run_21 msX7_does (by decide) rfl (Or.inr (List.mem_of_getElem? (i := 2) rfl)) (Or.inr (List.mem_of_getElem? (i := 1) rfl)) q766 q765 (pj_xD 0 rfl) ⟨by decide, by decide, by decide +kernel⟩
theorem kX5_run_21_X8 : pj_CA mX5_run mX8_does 21 2 (pj_rc 6) := pc_D (owner := "PennyJudge$Done") (x := ⟨"PennyJudge$Act", "does", "(LPennyJudge$Run;)I"⟩) dX5_run_21 msX8_does (by decide) rfl (Or.inr (List.mem_of_getElem? (i := 2) rfl)) (Or.inr (List.mem_of_getElem? (i := 1) rfl)) q775 q774 (pj_xD 0 rfl) ⟨by decide, by decide, by decide +kernel⟩
theorem kX5_run_21_X9 : pj_CA mX5_run mX9_does 21 2 (pj_rc 7) := pc_D (owner := "PennyJudge$Done") (x := ⟨"PennyJudge$Act", "does", "(LPennyJudge$Run;)I"⟩) dX5_run_21 msX9_does (by decide) rfl (Or.inr (List.mem_of_getElem? (i := 2) rfl)) (Or.inr (List.mem_of_getElem? (i := 1) rfl)) q709 q708 (pj_xD 0 rfl) ⟨by decide, by decide, by decide +kernel⟩
theorem kX5_run_21_X10 : pj_CA mX5_run mX10_does 21 2 (pj_rc 8) := pc_D (owner := "PennyJudge$Done") (x := ⟨"PennyJudge$Act", "does", "(LPennyJudge$Run;)I"⟩) dX5_run_21 msX10_does (by decide) rfl (Or.inr (List.mem_of_getElem? (i := 2) rfl)) (Or.inr (List.mem_of_getElem? (i := 1) rfl)) q726 q725 (pj_xD 0 rfl) ⟨by decide, by decide, by decide +kernel⟩
theorem kX5_run_21_X11 : pj_CA mX5_run mX11_does 21 2 (pj_rc 9) := pc_D (owner := "PennyJudge$Done") (x := ⟨"PennyJudge$Act", "does", "(LPennyJudge$Run;)I"⟩) dX5_run_21 msX11_does (by decide) rfl (Or.inr (List.mem_of_getElem? (i := 2) rfl)) (Or.inr (List.mem_of_getElem? (i := 1) rfl)) q735 q734 (pj_xD 0 rfl) ⟨by decide, by decide, by decide +kernel⟩
theorem kX5_run_21_X12 : pj_CA mX5_run mX12_does 21 2 (pj_rc 10) := pc_D (owner := "PennyJudge$Done") (x := ⟨"PennyJudge$Act", "does", "(LPennyJudge$Run;)I"⟩) dX5_run_21 msX12_does (by decide) rfl (Or.inr (List.mem_of_getElem? (i := 2) rfl)) (Or.inr (List.mem_of_getElem? (i := 1) rfl)) q654 q653 (pj_xD 0 rfl) ⟨by decide, by decide, by decide +kernel⟩
theorem kX5_run_21_X13 : pj_CA mX5_run mX13_does 21 2 (pj_rc 11) := pc_D (owner := "PennyJudge$Done") (x := ⟨"PennyJudge$Act", "does", "(LPennyJudge$Run;)I"⟩) dX5_run_21 msX13_does (by decide) rfl (Or.inr (List.mem_of_getElem? (i := 2) rfl)) (Or.inr (List.mem_of_getElem? (i := 1) rfl)) q748 q747 (pj_xD 0 rfl) ⟨by decide, by decide, by decide +kernel⟩
theorem kX5_run_21_X14 : pj_CA mX5_run mX14_does 21 2 (pj_rc 12) := pc_D (owner := "PennyJudge$Done") (x := ⟨"PennyJudge$Act", "does", "(LPennyJudge$Run;)I"⟩) dX5_run_21 msX14_does (by decide) rfl (Or.inr (List.mem_of_getElem? (i := 2) rfl)) (Or.inr (List.mem_of_getElem? (i := 1) rfl)) q719 q718 (pj_xD 0 rfl) ⟨by decide, by decide, by decide +kernel⟩
theorem kX5_run_21_X15 : pj_CA mX5_run mX15_does 21 2 (pj_rc 13) := pc_D (owner := "PennyJudge$Done") (x := ⟨"PennyJudge$Act", "does", "(LPennyJudge$Run;)I"⟩) dX5_run_21 msX15_does (by decide) rfl (Or.inr (List.mem_of_getElem? (i := 2) rfl)) (Or.inr (List.mem_of_getElem? (i := 1) rfl)) q685 q684 (pj_xD 0 rfl) ⟨by decide, by decide, by decide +kernel⟩
theorem kX5_run_21_X16 : pj_CA mX5_run mX16_does 21 2 (pj_rc 14) := pc_D (owner := "PennyJudge$Done") (x := ⟨"PennyJudge$Act", "does", "(LPennyJudge$Run;)I"⟩) dX5_run_21 msX16_does (by decide) rfl (Or.inr (List.mem_of_getElem? (i := 2) rfl)) (Or.inr (List.mem_of_getElem? (i := 1) rfl)) q681 q680 (pj_xD 0 rfl) ⟨by decide, by decide, by decide +kernel⟩
theorem kX5_run_21_X17 : pj_CA mX5_run mX17_does 21 2 (pj_rc 15) := pc_D (owner := "PennyJudge$Done") (x := ⟨"PennyJudge$Act", "does", "(LPennyJudge$Run;)I"⟩) dX5_run_21 msX17_does (by decide) rfl (Or.inr (List.mem_of_getElem? (i := 2) rfl)) (Or.inr (List.mem_of_getElem? (i := 1) rfl)) q674 q673 (pj_xD 0 rfl) ⟨by decide, by decide, by decide +kernel⟩
theorem kX5_run_21_X18 : pj_CA mX5_run mX18_does 21 2 (pj_rc 16) := pc_D (owner := "PennyJudge$Done") (x := ⟨"PennyJudge$Act", "does", "(LPennyJudge$Run;)I"⟩) dX5_run_21 msX18_does (by decide) rfl (Or.inr (List.mem_of_getElem? (i := 2) rfl)) (Or.inr (List.mem_of_getElem? (i := 1) rfl)) q740 q739 (pj_xD 0 rfl) ⟨by decide, by decide, by decide +kernel⟩
theorem kX5_run_21_X19 : pj_CA mX5_run mX19_does 21 2 (pj_rc 17) := pc_D (owner := "PennyJudge$Done") (x := ⟨"PennyJudge$Act", "does", "(LPennyJudge$Run;)I"⟩) dX5_run_21 msX19_does (by decide) rfl (Or.inr (List.mem_of_getElem? (i := 2) rfl)) (Or.inr (List.mem_of_getElem? (i := 1) rfl)) q692 q691 (pj_xD 0 rfl) ⟨by decide, by decide, by decide +kernel⟩
theorem kX5_loosely_21_X7 : pj_CA mX5_loosely mX7_loosely 21 2 (pj_rc 5) := pc_D (owner := "PennyJudge$Done") (x := ⟨"PennyJudge$Act", "loosely", "(LPennyJudge$Run;)V"⟩) dX5_loosely_21 msX7_loosely (by decide) rfl (Or.inr (List.mem_of_getElem? (i := 3) rfl)) (Or.inr (List.mem_of_getElem? (i := 4) rfl)) q929 q928 (pj_xD 2 rfl) ⟨by decide, by decide, by decide +kernel⟩
theorem kX5_loosely_21_X8 : pj_CA mX5_loosely mX8_loosely 21 2 (pj_rc 6) := pc_D (owner := "PennyJudge$Done") (x := ⟨"PennyJudge$Act", "loosely", "(LPennyJudge$Run;)V"⟩) dX5_loosely_21 msX8_loosely (by decide) rfl (Or.inr (List.mem_of_getElem? (i := 3) rfl)) (Or.inr (List.mem_of_getElem? (i := 4) rfl)) q932 q931 (pj_xD 2 rfl) ⟨by decide, by decide, by decide +kernel⟩
theorem kX5_loosely_21_X9 : pj_CA mX5_loosely mX9_loosely 21 2 (pj_rc 7) := pc_D (owner := "PennyJudge$Done") (x := ⟨"PennyJudge$Act", "loosely", "(LPennyJudge$Run;)V"⟩) dX5_loosely_21 msX9_loosely (by decide) rfl (Or.inr (List.mem_of_getElem? (i := 3) rfl)) (Or.inr (List.mem_of_getElem? (i := 4) rfl)) q906 q905 (pj_xD 2 rfl) ⟨by decide, by decide, by decide +kernel⟩
theorem kX5_loosely_21_X10 : pj_CA mX5_loosely mX10_loosely 21 2 (pj_rc 8) := pc_D (owner := "PennyJudge$Done") (x := ⟨"PennyJudge$Act", "loosely", "(LPennyJudge$Run;)V"⟩) dX5_loosely_21 msX10_loosely (by decide) rfl (Or.inr (List.mem_of_getElem? (i := 3) rfl)) (Or.inr (List.mem_of_getElem? (i := 4) rfl)) q913 q912 (pj_xD 2 rfl) ⟨by decide, by decide, by decide +kernel⟩
theorem kX5_loosely_21_X11 : pj_CA mX5_loosely mX11_loosely 21 2 (pj_rc 9) := pc_D (owner := "PennyJudge$Done") (x := ⟨"PennyJudge$Act", "loosely", "(LPennyJudge$Run;)V"⟩) dX5_loosely_21 msX11_loosely (by decide) rfl (Or.inr (List.mem_of_getElem? (i := 3) rfl)) (Or.inr (List.mem_of_getElem? (i := 4) rfl)) q916 q915 (pj_xD 2 rfl) ⟨by decide, by decide, by decide +kernel⟩
theorem kX5_loosely_21_X12 : pj_CA mX5_loosely mX12_loosely 21 2 (pj_rc 10) := pc_D (owner := "PennyJudge$Done") (x := ⟨"PennyJudge$Act", "loosely", "(LPennyJudge$Run;)V"⟩) dX5_loosely_21 msX12_loosely (by decide) rfl (Or.inr (List.mem_of_getElem? (i := 3) rfl)) (Or.inr (List.mem_of_getElem? (i := 4) rfl)) q832 q831 (pj_xD 2 rfl) ⟨by decide, by decide, by decide +kernel⟩
theorem kX5_loosely_21_X13 : pj_CA mX5_loosely mX13_loosely 21 2 (pj_rc 11) := pc_D (owner := "PennyJudge$Done") (x := ⟨"PennyJudge$Act", "loosely", "(LPennyJudge$Run;)V"⟩) dX5_loosely_21 msX13_loosely (by decide) rfl (Or.inr (List.mem_of_getElem? (i := 3) rfl)) (Or.inr (List.mem_of_getElem? (i := 4) rfl)) q924 q923 (pj_xD 2 rfl) ⟨by decide, by decide, by decide +kernel⟩
theorem kX5_loosely_21_X14 : pj_CA mX5_loosely mX14_loosely 21 2 (pj_rc 12) := pc_D (owner := "PennyJudge$Done") (x := ⟨"PennyJudge$Act", "loosely", "(LPennyJudge$Run;)V"⟩) dX5_loosely_21 msX14_loosely (by decide) rfl (Or.inr (List.mem_of_getElem? (i := 3) rfl)) (Or.inr (List.mem_of_getElem? (i := 4) rfl)) q910 q909 (pj_xD 2 rfl) ⟨by decide, by decide, by decide +kernel⟩
theorem kX5_loosely_21_X15 : pj_CA mX5_loosely mX15_loosely 21 2 (pj_rc 13) := pc_D (owner := "PennyJudge$Done") (x := ⟨"PennyJudge$Act", "loosely", "(LPennyJudge$Run;)V"⟩) dX5_loosely_21 msX15_loosely (by decide) rfl (Or.inr (List.mem_of_getElem? (i := 3) rfl)) (Or.inr (List.mem_of_getElem? (i := 4) rfl)) q841 q840 (pj_xD 2 rfl) ⟨by decide, by decide, by decide +kernel⟩
theorem kX5_loosely_21_X16 : pj_CA mX5_loosely mX16_loosely 21 2 (pj_rc 14) := pc_D (owner := "PennyJudge$Done") (x := ⟨"PennyJudge$Act", "loosely", "(LPennyJudge$Run;)V"⟩) dX5_loosely_21 msX16_loosely (by decide) rfl (Or.inr (List.mem_of_getElem? (i := 3) rfl)) (Or.inr (List.mem_of_getElem? (i := 4) rfl)) q838 q837 (pj_xD 2 rfl) ⟨by decide, by decide, by decide +kernel⟩
theorem kX5_loosely_21_X17 : pj_CA mX5_loosely mX17_loosely 21 2 (pj_rc 15) := pc_D (owner := "PennyJudge$Done") (x := ⟨"PennyJudge$Act", "loosely", "(LPennyJudge$Run;)V"⟩) dX5_loosely_21 msX17_loosely (by decide) rfl (Or.inr (List.mem_of_getElem? (i := 3) rfl)) (Or.inr (List.mem_of_getElem? (i := 4) rfl)) q835 q834 (pj_xD 2 rfl) ⟨by decide, by decide, by decide +kernel⟩
theorem kX5_loosely_21_X18 : pj_CA mX5_loosely mX18_loosely 21 2 (pj_rc 16) := pc_D (owner := "PennyJudge$Done") (x := ⟨"PennyJudge$Act", "loosely", "(LPennyJudge$Run;)V"⟩) dX5_loosely_21 msX18_loosely (by decide) rfl (Or.inr (List.mem_of_getElem? (i := 3) rfl)) (Or.inr (List.mem_of_getElem? (i := 4) rfl)) q920 q919 (pj_xD 2 rfl) ⟨by decide, by decide, by decide +kernel⟩
theorem kX5_loosely_21_X19 : pj_CA mX5_loosely mX19_loosely 21 2 (pj_rc 17) := pc_D (owner := "PennyJudge$Done") (x := ⟨"PennyJudge$Act", "loosely", "(LPennyJudge$Run;)V"⟩) dX5_loosely_21 msX19_loosely (by decide) rfl (Or.inr (List.mem_of_getElem? (i := 3) rfl)) (Or.inr (List.mem_of_getElem? (i := 4) rfl)) q870 q869 (pj_xD 2 rfl) ⟨by decide, by decide, by decide +kernel⟩
theorem kX7_does_34 : pj_CA mX7_does mX6_show 34 3 (pj_rc 5) := pc_A (owner := "PennyJudge$Act") (x := ⟨"PennyJudge$Sum", "show", "(LPennyJudge$Run;Z)V"⟩) dX7_does_34 msX6_show (by decide) rfl (Or.inl q768) (Or.inl q769) q671 q771 (pj_xD 1 rfl) ⟨by decide, by decide, by decide +kernel⟩
theorem kX8_does_74 : pj_CA mX8_does mX6_show 74 3 (pj_rc 6) := pc_A (owner := "PennyJudge$Act") (x := ⟨"PennyJudge$Tax", "show", "(LPennyJudge$Run;Z)V"⟩) dX8_does_74 msX6_show (by decide) rfl (Or.inl q780) (Or.inl q781) q671 q783 (pj_xD 1 rfl) ⟨by decide, by decide, by decide +kernel⟩
theorem kX9_does_86 : pj_CA mX9_does mX6_show 86 3 (pj_rc 7) := pc_A (owner := "PennyJudge$Act") (x := ⟨"PennyJudge$Flow", "show", "(LPennyJudge$Run;Z)V"⟩) dX9_does_86 msX6_show (by decide) rfl (Or.inl q714) (Or.inl q715) q671 q716 (pj_xD 1 rfl) ⟨by decide, by decide, by decide +kernel⟩
theorem kX10_does_64 : pj_CA mX10_does mX6_show 64 3 (pj_rc 8) := pc_A (owner := "PennyJudge$Act") (x := ⟨"PennyJudge$Rated", "show", "(LPennyJudge$Run;Z)V"⟩) dX10_does_64 msX6_show (by decide) rfl (Or.inl q731) (Or.inl q732) q671 q733 (pj_xD 1 rfl) ⟨by decide, by decide, by decide +kernel⟩
theorem kX12_does_123 : pj_CA mX12_does mX6_show 123 3 (pj_rc 10) := pc_A (owner := "PennyJudge$Act") (x := ⟨"PennyJudge$Added", "show", "(LPennyJudge$Run;Z)V"⟩) dX12_does_123 msX6_show (by decide) rfl (Or.inl q667) (Or.inl q668) q671 q670 (pj_xD 1 rfl) ⟨by decide, by decide, by decide +kernel⟩
theorem kX14_does_29 : pj_CA mX14_does mX6_show 29 3 (pj_rc 12) := pc_A (owner := "PennyJudge$Act") (x := ⟨"PennyJudge$Part", "show", "(LPennyJudge$Run;Z)V"⟩) dX14_does_29 msX6_show (by decide) rfl (Or.inl q722) (Or.inl q723) q671 q724 (pj_xD 1 rfl) ⟨by decide, by decide, by decide +kernel⟩
theorem kX18_does_42 : pj_CA mX18_does mX6_show 42 3 (pj_rc 16) := pc_A (owner := "PennyJudge$Act") (x := ⟨"PennyJudge$Show", "show", "(LPennyJudge$Run;Z)V"⟩) dX18_does_42 msX6_show (by decide) rfl (Or.inl q744) (Or.inl q745) q671 q746 (pj_xD 1 rfl) ⟨by decide, by decide, by decide +kernel⟩
/-- one instruction of a table, its step said -/
theorem pj_J.go1 {G : pj_G} {mt : pj_M} {T : pj_T} (hT : pj_okT G mt 0 T) {d pc pc' : Nat} {op : pj_Op} (hop : pj_at16 T pc = some op) {L L' : pj_L} {st st' : List Value} {h h' : pj_H} {kc ks kc' ks' : Nat} {c : Option Prop} (he : op L st h kc ks = some (c, (pc', L', st', h', kc', ks'))) (hc : pj_ok c) {Q : pj_O → pj_H → Prop} (k : pj_J G mt d pc' L' st' h' kc' ks' Q) : pj_J G mt d pc L st h kc ks Q :=
  pj_okT_at hT hop L st h kc ks c _ he hc d Q k
theorem po_getD {lo hi k n a ci : Nat} {L : pj_L} {r fs : List Value} {v : Value} {h : pj_H} {kc ks : Nat} (ha : h[a]? = some (.inr (ci, fs))) (hr : lo ≤ ci ∧ ci ≤ hi) (hv : fs[k]? = some v) : po_get lo hi k n L (.ref a :: r) h kc ks = some (none, (n, L, v :: r, h, kc, ks)) := by
  unfold po_get
  simp only [ha, hr, hv, and_self, if_true]
theorem po_putD {lo hi k n a ci : Nat} {ty : FieldType} {L : pj_L} {r fs : List Value} {v : Value} {cnd : Option Prop} {h : pj_H} {kc ks : Nat} (ha : h[a]? = some (.inr (ci, fs))) (hr : lo ≤ ci ∧ ci ≤ hi) (hk : k < fs.length) (hv : pj_pc ty v = some cnd) : po_put lo hi k ty n L (v :: .ref a :: r) h kc ks = some (cnd, (n, L, r, h.set a (.inr (ci, fs.set k v)), kc, ks)) := by
  unfold po_put
  simp only [ha, hv]
  rw [if_pos ⟨hr.1, hr.2, hk⟩]
theorem po_aaldD {n a kd N : Nat} {i : Int32} {L : pj_L} {r : List Value} {f : Nat → Option Nat} {h : pj_H} {kc ks : Nat} (ha : h[a]? = some (.inl (kd, (N, .inr (.inr (.inr (.inr f))))))) (hk : kd = 6 ∨ kd = 7 ∨ kd = 8) : po_aald n L (.int i :: .ref a :: r) h kc ks = some (some (vp_in i N), (n, L, va_rf (f i.toNatClampNeg) :: r, h, kc, ks)) := by
  unfold po_aald
  simp only [ha, hk, if_true]
theorem sx_get {c : sx_C} {m : sx_M} {o : Nat → Int64} {D : pj_H} {i : Nat} : (sx_mk c m o D)[i + 98]? = D[i]? := rfl
theorem sx_set {c : sx_C} {m : sx_M} {o : Nat → Int64} {D : pj_H} {i : Nat} {x : pj_E} : (sx_mk c m o D).set (i + 98) x = sx_mk c m o (D.set i x) := rfl
/-- another writing of the stack -/
theorem pj_J.seq {G : pj_G} {mt : pj_M} {d pc : Nat} {L : pj_L} {st st' : List Value} {h : pj_H} {kc ks : Nat} {Q : pj_O → pj_H → Prop} (e : st = st') (k : pj_J G mt d pc L st' h kc ks Q) : pj_J G mt d pc L st h kc ks Q := by
  subst e; exact k
