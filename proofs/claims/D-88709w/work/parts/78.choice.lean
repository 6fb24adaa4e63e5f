/-! choice, choices, choose (by tools/gen_v2.py) -/
set_option maxRecDepth 100000
theorem pc_O {mt my : pj_M} {pc n index ci : Nat} {C owner : String} {x : MethodName} {T : u_T} {N : Nat} (hd : decode mt.2.1 pc = .ok (.invokevirtual index, 3)) (hM : pj_MS my n) (hci : ci < 90) (hcl : pj_cl[ci]? = some (C, T, N)) (hl : Cond.methodLink mt.1.cls index x ∈ lw_all ∨ Cond.methodLink mt.1.cls index x ∈ pj_extW) (hsm : Cond.sameMethod x.cls owner x.name x.desc ∈ lw_all ∨ Cond.sameMethod x.cls owner x.name x.desc ∈ pj_extW) (hi : Cond.instanceMethod my.1 ∈ lw_all) (hs : Cond.selects C x my.1 ∈ lw_all) {b0 : ByteArray} {m0 : Nat} {r0 : Option FieldType} (hio : Cond.instanceMethod ⟨owner, x.name, x.desc⟩ ∈ lw_all) (hz : Cond.code ⟨owner, x.name, x.desc⟩ b0 m0 r0 ∈ lw_all) (ho : owner ≠ "java/lang/invoke/MethodHandle" ∧ owner ≠ "java/lang/invoke/VarHandle" ∧ (parseMethodDescriptor x.desc).map (fun d => d.parameters.length) = some n) : pj_CA mt my pc (n + 1) (pj_rc ci) := by
  refine ⟨hM.1, ?_⟩
  intro G p l e R s m args below meth c H locs cells slots ls h as rest d k1 s1 Q hC hR hls hok hn hw hc1 hs1 hMet
  obtain ⟨y1, y2, y3, y4, y5⟩ := hM
  have hts := hC.2.2.2.2.2.2.2.1
  obtain ⟨-, -, -, -, -, -, -, -, -, hfr, hlo, hfl⟩ := id hC
  obtain ⟨b, fs, As, rfl, hb⟩ := hok
  have hK := hC.2.2.2.2.2.2.2.2.1
  have hp := pj_pre (as := .ref b :: As) hR hK hfl
  have hts2 : ∀ w ∈ lw_all ++ pj_extW, w.before args s = true := by
    intro w hw
    rcases List.mem_append.mp hw with hw | hw
    · exact hts w hw
    · exact va_Nw.use (pj_extW_on w hw) (hK.2.1 _ (pj_extW_in w hw))
  have hG : ∀ w : Cond, (w ∈ lw_all ∨ w ∈ pj_extW) → w ∈ lw_all ++ pj_extW ∧ ((w.onTables && w.keeps) = true ∨ ∃ ty, w = .arrayClass ty) := by
    intro w hw
    rcases hw with hw | hw
    · exact ⟨List.mem_append_left _ hw, (lw_self w hw).2⟩
    · exact ⟨List.mem_append_right _ hw, pj_extW_good w hw⟩
  have hGood : GoodIn (lw_all ++ pj_extW) (va_wsO mt.1.cls index C owner x my.1 (ws_ my.1 my.2.1 my.2.2.1 my.2.2.2)) := by
    intro w hw
    unfold va_wsO at hw
    rcases List.mem_append.mp hw with hw | hw
    · simp only [List.mem_cons, List.not_mem_nil, or_false] at hw
      rcases hw with e | e | e | e | e | e
      · rw [e]; exact hG _ hl
      · rw [e]; exact hG _ hsm
      · rw [e]; exact hG _ (Or.inl hio)
      · rw [e]; exact hG _ (Or.inl hs)
      · rw [e]; exact hG _ (Or.inl hi)
      · rw [e]; exact hG _ (Or.inl y5)
    · rcases List.mem_cons.mp hw with e | e
      · rw [e]; exact hG _ (Or.inl y4)
      · exact hG _ (Or.inl e)
  refine va_runU (As := As.map (pj_v G)) (b := pj_ad G b) (C := C) (owner := owner) (x := x) (n := n) (Ts := lw_all ++ pj_extW) (own := mt.1.cls) (index := index) (cc := mt.2.1) (nL := mt.2.2.1) ⟨hC.1, hC.2.1, hC.2.2.1, hC.2.2.2.2.2.1, hts2⟩ hMet (va_cwO n hts2 hGood rfl rfl rfl (List.mem_append_left _ hz) ho ⟨?_, ?_⟩) ⟨hp.1, pj_recv hR hK hb hci hcl, hp.2⟩ rfl (by rw [List.length_map]; simpa using hn) hls ?_ ?_ hd ⟨hc1, hs1⟩
  · show d + 8 + 1 ≤ R.frames; omega
  · show 8 + (my.2.2.1 + 11) + (10400 + 200 * d) ≤ R.locals; omega
  · show ((Value.ref b :: As).reverse ++ rest).map (pj_v G) = _
    simp [pj_v]
  · show 2 * 0 + _ ≤ 8
    rw [pj_cats]; omega
theorem kX1_mend_91_X7 : pj_CA mX1_mend mX6_choice 91 1 (pj_rc 5) := pc_O (owner := "PennyJudge$Act") (x := ⟨"PennyJudge$Act", "choice", "()I"⟩) dX1_mend_91 msX6_choice (by decide) rfl (Or.inl q953) (Or.inl q955) q954 q975 q954 q977 ⟨by decide, by decide, by decide +kernel⟩
theorem kX1_mend_91_X8 : pj_CA mX1_mend mX8_choice 91 1 (pj_rc 6) := pc_O (owner := "PennyJudge$Act") (x := ⟨"PennyJudge$Act", "choice", "()I"⟩) dX1_mend_91 msX8_choice (by decide) rfl (Or.inl q953) (Or.inl q955) q962 q976 q954 q977 ⟨by decide, by decide, by decide +kernel⟩
theorem kX1_mend_91_X9 : pj_CA mX1_mend mX8_choice 91 1 (pj_rc 7) := pc_O (owner := "PennyJudge$Act") (x := ⟨"PennyJudge$Act", "choice", "()I"⟩) dX1_mend_91 msX8_choice (by decide) rfl (Or.inl q953) (Or.inl q955) q962 q961 q954 q977 ⟨by decide, by decide, by decide +kernel⟩
theorem kX1_mend_91_X10 : pj_CA mX1_mend mX6_choice 91 1 (pj_rc 8) := pc_O (owner := "PennyJudge$Act") (x := ⟨"PennyJudge$Act", "choice", "()I"⟩) dX1_mend_91 msX6_choice (by decide) rfl (Or.inl q953) (Or.inl q955) q954 q965 q954 q977 ⟨by decide, by decide, by decide +kernel⟩
theorem kX1_mend_91_X11 : pj_CA mX1_mend mX11_choice 91 1 (pj_rc 9) := pc_O (owner := "PennyJudge$Act") (x := ⟨"PennyJudge$Act", "choice", "()I"⟩) dX1_mend_91 msX11_choice (by decide) rfl (Or.inl q953) (Or.inl q955) q967 q966 q954 q977 ⟨by decide, by decide, by decide +kernel⟩
theorem kX1_mend_91_X12 : pj_CA mX1_mend mX6_choice 91 1 (pj_rc 10) := pc_O (owner := "PennyJudge$Act") (x := ⟨"PennyJudge$Act", "choice", "()I"⟩) dX1_mend_91 msX6_choice (by decide) rfl (Or.inl q953) (Or.inl q955) q954 q956 q954 q977 ⟨by decide, by decide, by decide +kernel⟩
theorem kX1_mend_91_X13 : pj_CA mX1_mend mX13_choice 91 1 (pj_rc 11) := pc_O (owner := "PennyJudge$Act") (x := ⟨"PennyJudge$Act", "choice", "()I"⟩) dX1_mend_91 msX13_choice (by decide) rfl (Or.inl q953) (Or.inl q955) q973 q972 q954 q977 ⟨by decide, by decide, by decide +kernel⟩
theorem kX1_mend_91_X14 : pj_CA mX1_mend mX6_choice 91 1 (pj_rc 12) := pc_O (owner := "PennyJudge$Act") (x := ⟨"PennyJudge$Act", "choice", "()I"⟩) dX1_mend_91 msX6_choice (by decide) rfl (Or.inl q953) (Or.inl q955) q954 q964 q954 q977 ⟨by decide, by decide, by decide +kernel⟩
theorem kX1_mend_91_X15 : pj_CA mX1_mend mX6_choice 91 1 (pj_rc 13) := pc_O (owner := "PennyJudge$Act") (x := ⟨"PennyJudge$Act", "choice", "()I"⟩) dX1_mend_91 msX6_choice (by decide) rfl (Or.inl q953) (Or.inl q955) q954 q959 q954 q977 ⟨by decide, by decide, by decide +kernel⟩
theorem kX1_mend_91_X16 : pj_CA mX1_mend mX6_choice 91 1 (pj_rc 14) := pc_O (owner := "PennyJudge$Act") (x := ⟨"PennyJudge$Act", "choice", "()I"⟩) dX1_mend_91 msX6_choice (by decide) rfl (Or.inl q953) (Or.inl q955) q954 q958 q954 q977 ⟨by decide, by decide, by decide +kernel⟩
theorem kX1_mend_91_X17 : pj_CA mX1_mend mX6_choice 91 1 (pj_rc 15) := pc_O (owner := "PennyJudge$Act") (x := ⟨"PennyJudge$Act", "choice", "()I"⟩) dX1_mend_91 msX6_choice (by decide) rfl (Or.inl q953) (Or.inl q955) q954 q957 q954 q977 ⟨by decide, by decide, by decide +kernel⟩
theorem kX1_mend_91_X18 : pj_CA mX1_mend mX18_choice 91 1 (pj_rc 16) := pc_O (owner := "PennyJudge$Act") (x := ⟨"PennyJudge$Act", "choice", "()I"⟩) dX1_mend_91 msX18_choice (by decide) rfl (Or.inl q953) (Or.inl q955) q970 q969 q954 q977 ⟨by decide, by decide, by decide +kernel⟩
theorem kX1_mend_91_X19 : pj_CA mX1_mend mX6_choice 91 1 (pj_rc 17) := pc_O (owner := "PennyJudge$Act") (x := ⟨"PennyJudge$Act", "choice", "()I"⟩) dX1_mend_91 msX6_choice (by decide) rfl (Or.inl q953) (Or.inl q955) q954 q960 q954 q977 ⟨by decide, by decide, by decide +kernel⟩
theorem kX1_mend_114_X7 : pj_CA mX1_mend mX6_choices 114 1 (pj_rc 5) := pc_O (owner := "PennyJudge$Act") (x := ⟨"PennyJudge$Act", "choices", "()I"⟩) dX1_mend_114 msX6_choices (by decide) rfl (Or.inl q978) (Or.inl q980) q979 q995 q979 q997 ⟨by decide, by decide, by decide +kernel⟩
theorem kX1_mend_114_X8 : pj_CA mX1_mend mX6_choices 114 1 (pj_rc 6) := pc_O (owner := "PennyJudge$Act") (x := ⟨"PennyJudge$Act", "choices", "()I"⟩) dX1_mend_114 msX6_choices (by decide) rfl (Or.inl q978) (Or.inl q980) q979 q996 q979 q997 ⟨by decide, by decide, by decide +kernel⟩
theorem kX1_mend_114_X9 : pj_CA mX1_mend mX6_choices 114 1 (pj_rc 7) := pc_O (owner := "PennyJudge$Act") (x := ⟨"PennyJudge$Act", "choices", "()I"⟩) dX1_mend_114 msX6_choices (by decide) rfl (Or.inl q978) (Or.inl q980) q979 q986 q979 q997 ⟨by decide, by decide, by decide +kernel⟩
theorem kX1_mend_114_X10 : pj_CA mX1_mend mX6_choices 114 1 (pj_rc 8) := pc_O (owner := "PennyJudge$Act") (x := ⟨"PennyJudge$Act", "choices", "()I"⟩) dX1_mend_114 msX6_choices (by decide) rfl (Or.inl q978) (Or.inl q980) q979 q988 q979 q997 ⟨by decide, by decide, by decide +kernel⟩
theorem kX1_mend_114_X11 : pj_CA mX1_mend mX6_choices 114 1 (pj_rc 9) := pc_O (owner := "PennyJudge$Act") (x := ⟨"PennyJudge$Act", "choices", "()I"⟩) dX1_mend_114 msX6_choices (by decide) rfl (Or.inl q978) (Or.inl q980) q979 q989 q979 q997 ⟨by decide, by decide, by decide +kernel⟩
theorem kX1_mend_114_X12 : pj_CA mX1_mend mX6_choices 114 1 (pj_rc 10) := pc_O (owner := "PennyJudge$Act") (x := ⟨"PennyJudge$Act", "choices", "()I"⟩) dX1_mend_114 msX6_choices (by decide) rfl (Or.inl q978) (Or.inl q980) q979 q981 q979 q997 ⟨by decide, by decide, by decide +kernel⟩
theorem kX1_mend_114_X13 : pj_CA mX1_mend mX13_choices 114 1 (pj_rc 11) := pc_O (owner := "PennyJudge$Act") (x := ⟨"PennyJudge$Act", "choices", "()I"⟩) dX1_mend_114 msX13_choices (by decide) rfl (Or.inl q978) (Or.inl q980) q992 q991 q979 q997 ⟨by decide, by decide, by decide +kernel⟩
theorem kX1_mend_114_X14 : pj_CA mX1_mend mX6_choices 114 1 (pj_rc 12) := pc_O (owner := "PennyJudge$Act") (x := ⟨"PennyJudge$Act", "choices", "()I"⟩) dX1_mend_114 msX6_choices (by decide) rfl (Or.inl q978) (Or.inl q980) q979 q987 q979 q997 ⟨by decide, by decide, by decide +kernel⟩
theorem kX1_mend_114_X15 : pj_CA mX1_mend mX6_choices 114 1 (pj_rc 13) := pc_O (owner := "PennyJudge$Act") (x := ⟨"PennyJudge$Act", "choices", "()I"⟩) dX1_mend_114 msX6_choices (by decide) rfl (Or.inl q978) (Or.inl q980) q979 q984 q979 q997 ⟨by decide, by decide, by decide +kernel⟩
theorem kX1_mend_114_X16 : pj_CA mX1_mend mX6_choices 114 1 (pj_rc 14) := pc_O (owner := "PennyJudge$Act") (x := ⟨"PennyJudge$Act", "choices", "()I"⟩) dX1_mend_114 msX6_choices (by decide) rfl (Or.inl q978) (Or.inl q980) q979 q983 q979 q997 ⟨by decide, by decide, by decide +kernel⟩
theorem kX1_mend_114_X17 : pj_CA mX1_mend mX6_choices 114 1 (pj_rc 15) := pc_O (owner := "PennyJudge$Act") (x := ⟨"PennyJudge$Act", "choices", "()I"⟩) dX1_mend_114 msX6_choices (by decide) rfl (Or.inl q978) (Or.inl q980) q979 q982 q979 q997 ⟨by decide, by decide, by decide +kernel⟩
theorem kX1_mend_114_X18 : pj_CA mX1_mend mX6_choices 114 1 (pj_rc 16) := pc_O (owner := "PennyJudge$Act") (x := ⟨"PennyJudge$Act", "choices", "()I"⟩) dX1_mend_114 msX6_choices (by decide) rfl (Or.inl q978) (Or.inl q980) q979 q990 q979 q997 ⟨by decide, by decide, by decide +kernel⟩
theorem kX1_mend_114_X19 : pj_CA mX1_mend mX6_choices 114 1 (pj_rc 17) := pc_O (owner := "PennyJudge$Act") (x := ⟨"PennyJudge$Act", "choices", "()I"⟩) dX1_mend_114 msX6_choices (by decide) rfl (Or.inl q978) (Or.inl q980) q979 q985 q979 q997 ⟨by decide, by decide, by decide +kernel⟩
theorem kX1_mend_139_X7 : pj_CA mX1_mend mX6_choose 139 2 (pj_rc 5) := pc_O (owner := "PennyJudge$Act") (x := ⟨"PennyJudge$Act", "choose", "(I)V"⟩) dX1_mend_139 msX6_choose (by decide) rfl (Or.inl q998) (Or.inl q1000) q999 q1020 q999 q1022 ⟨by decide, by decide, by decide +kernel⟩
theorem kX1_mend_139_X8 : pj_CA mX1_mend mX8_choose 139 2 (pj_rc 6) := pc_O (owner := "PennyJudge$Act") (x := ⟨"PennyJudge$Act", "choose", "(I)V"⟩) dX1_mend_139 msX8_choose (by decide) rfl (Or.inl q998) (Or.inl q1000) q1007 q1021 q999 q1022 ⟨by decide, by decide, by decide +kernel⟩
theorem kX1_mend_139_X9 : pj_CA mX1_mend mX8_choose 139 2 (pj_rc 7) := pc_O (owner := "PennyJudge$Act") (x := ⟨"PennyJudge$Act", "choose", "(I)V"⟩) dX1_mend_139 msX8_choose (by decide) rfl (Or.inl q998) (Or.inl q1000) q1007 q1006 q999 q1022 ⟨by decide, by decide, by decide +kernel⟩
theorem kX1_mend_139_X10 : pj_CA mX1_mend mX6_choose 139 2 (pj_rc 8) := pc_O (owner := "PennyJudge$Act") (x := ⟨"PennyJudge$Act", "choose", "(I)V"⟩) dX1_mend_139 msX6_choose (by decide) rfl (Or.inl q998) (Or.inl q1000) q999 q1010 q999 q1022 ⟨by decide, by decide, by decide +kernel⟩
theorem kX1_mend_139_X11 : pj_CA mX1_mend mX11_choose 139 2 (pj_rc 9) := pc_O (owner := "PennyJudge$Act") (x := ⟨"PennyJudge$Act", "choose", "(I)V"⟩) dX1_mend_139 msX11_choose (by decide) rfl (Or.inl q998) (Or.inl q1000) q1012 q1011 q999 q1022 ⟨by decide, by decide, by decide +kernel⟩
theorem kX1_mend_139_X12 : pj_CA mX1_mend mX6_choose 139 2 (pj_rc 10) := pc_O (owner := "PennyJudge$Act") (x := ⟨"PennyJudge$Act", "choose", "(I)V"⟩) dX1_mend_139 msX6_choose (by decide) rfl (Or.inl q998) (Or.inl q1000) q999 q1001 q999 q1022 ⟨by decide, by decide, by decide +kernel⟩
theorem kX1_mend_139_X13 : pj_CA mX1_mend mX13_choose 139 2 (pj_rc 11) := pc_O (owner := "PennyJudge$Act") (x := ⟨"PennyJudge$Act", "choose", "(I)V"⟩) dX1_mend_139 msX13_choose (by decide) rfl (Or.inl q998) (Or.inl q1000) q1018 q1017 q999 q1022 ⟨by decide, by decide, by decide +kernel⟩
theorem kX1_mend_139_X14 : pj_CA mX1_mend mX6_choose 139 2 (pj_rc 12) := pc_O (owner := "PennyJudge$Act") (x := ⟨"PennyJudge$Act", "choose", "(I)V"⟩) dX1_mend_139 msX6_choose (by decide) rfl (Or.inl q998) (Or.inl q1000) q999 q1009 q999 q1022 ⟨by decide, by decide, by decide +kernel⟩
theorem kX1_mend_139_X15 : pj_CA mX1_mend mX6_choose 139 2 (pj_rc 13) := pc_O (owner := "PennyJudge$Act") (x := ⟨"PennyJudge$Act", "choose", "(I)V"⟩) dX1_mend_139 msX6_choose (by decide) rfl (Or.inl q998) (Or.inl q1000) q999 q1004 q999 q1022 ⟨by decide, by decide, by decide +kernel⟩
theorem kX1_mend_139_X16 : pj_CA mX1_mend mX6_choose 139 2 (pj_rc 14) := pc_O (owner := "PennyJudge$Act") (x := ⟨"PennyJudge$Act", "choose", "(I)V"⟩) dX1_mend_139 msX6_choose (by decide) rfl (Or.inl q998) (Or.inl q1000) q999 q1003 q999 q1022 ⟨by decide, by decide, by decide +kernel⟩
theorem kX1_mend_139_X17 : pj_CA mX1_mend mX6_choose 139 2 (pj_rc 15) := pc_O (owner := "PennyJudge$Act") (x := ⟨"PennyJudge$Act", "choose", "(I)V"⟩) dX1_mend_139 msX6_choose (by decide) rfl (Or.inl q998) (Or.inl q1000) q999 q1002 q999 q1022 ⟨by decide, by decide, by decide +kernel⟩
theorem kX1_mend_139_X18 : pj_CA mX1_mend mX18_choose 139 2 (pj_rc 16) := pc_O (owner := "PennyJudge$Act") (x := ⟨"PennyJudge$Act", "choose", "(I)V"⟩) dX1_mend_139 msX18_choose (by decide) rfl (Or.inl q998) (Or.inl q1000) q1015 q1014 q999 q1022 ⟨by decide, by decide, by decide +kernel⟩
theorem kX1_mend_139_X19 : pj_CA mX1_mend mX6_choose 139 2 (pj_rc 17) := pc_O (owner := "PennyJudge$Act") (x := ⟨"PennyJudge$Act", "choose", "(I)V"⟩) dX1_mend_139 msX6_choose (by decide) rfl (Or.inl q998) (Or.inl q1000) q999 q1005 q999 q1022 ⟨by decide, by decide, by decide +kernel⟩
theorem kX1_mend_173_X7 : pj_CA mX1_mend mX6_choose 173 2 (pj_rc 5) := pc_O (owner := "PennyJudge$Act") (x := ⟨"PennyJudge$Act", "choose", "(I)V"⟩) dX1_mend_173 msX6_choose (by decide) rfl (Or.inl q998) (Or.inl q1000) q999 q1020 q999 q1022 ⟨by decide, by decide, by decide +kernel⟩
theorem kX1_mend_173_X8 : pj_CA mX1_mend mX8_choose 173 2 (pj_rc 6) := pc_O (owner := "PennyJudge$Act") (x := ⟨"PennyJudge$Act", "choose", "(I)V"⟩) dX1_mend_173 msX8_choose (by decide) rfl (Or.inl q998) (Or.inl q1000) q1007 q1021 q999 q1022 ⟨by decide, by decide, by decide +kernel⟩
theorem kX1_mend_173_X9 : pj_CA mX1_mend mX8_choose 173 2 (pj_rc 7) := pc_O (owner := "PennyJudge$Act") (x := ⟨"PennyJudge$Act", "choose", "(I)V"⟩) dX1_mend_173 msX8_choose (by decide) rfl (Or.inl q998) (Or.inl q1000) q1007 q1006 q999 q1022 ⟨by decide, by decide, by decide +kernel⟩
theorem kX1_mend_173_X10 : pj_CA mX1_mend mX6_choose 173 2 (pj_rc 8) := pc_O (owner := "PennyJudge$Act") (x := ⟨"PennyJudge$Act", "choose", "(I)V"⟩) dX1_mend_173 msX6_choose (by decide) rfl (Or.inl q998) (Or.inl q1000) q999 q1010 q999 q1022 ⟨by decide, by decide, by decide +kernel⟩
theorem kX1_mend_173_X11 : pj_CA mX1_mend mX11_choose 173 2 (pj_rc 9) := pc_O (owner := "PennyJudge$Act") (x := ⟨"PennyJudge$Act", "choose", "(I)V"⟩) dX1_mend_173 msX11_choose (by decide) rfl (Or.inl q998) (Or.inl q1000) q1012 q1011 q999 q1022 ⟨by decide, by decide, by decide +kernel⟩
theorem kX1_mend_173_X12 : pj_CA mX1_mend mX6_choose 173 2 (pj_rc 10) := pc_O (owner := "PennyJudge$Act") (x := ⟨"PennyJudge$Act", "choose", "(I)V"⟩) dX1_mend_173 msX6_choose (by decide) rfl (Or.inl q998) (Or.inl q1000) q999 q1001 q999 q1022 ⟨by decide, by decide, by decide +kernel⟩
theorem kX1_mend_173_X13 : pj_CA mX1_mend mX13_choose 173 2 (pj_rc 11) := pc_O (owner := "PennyJudge$Act") (x := ⟨"PennyJudge$Act", "choose", "(I)V"⟩) dX1_mend_173 msX13_choose (by decide) rfl (Or.inl q998) (Or.inl q1000) q1018 q1017 q999 q1022 ⟨by decide, by decide, by decide +kernel⟩
theorem kX1_mend_173_X14 : pj_CA mX1_mend mX6_choose 173 2 (pj_rc 12) := pc_O (owner := "PennyJudge$Act") (x := ⟨"PennyJudge$Act", "choose", "(I)V"⟩) dX1_mend_173 msX6_choose (by decide) rfl (Or.inl q998) (Or.inl q1000) q999 q1009 q999 q1022 ⟨by decide, by decide, by decide +kernel⟩
theorem kX1_mend_173_X15 : pj_CA mX1_mend mX6_choose 173 2 (pj_rc 13) := pc_O (owner := "PennyJudge$Act") (x := ⟨"PennyJudge$Act", "choose", "(I)V"⟩) dX1_mend_173 msX6_choose (by decide) rfl (Or.inl q998) (Or.inl q1000) q999 q1004 q999 q1022 ⟨by decide, by decide, by decide +kernel⟩
theorem kX1_mend_173_X16 : pj_CA mX1_mend mX6_choose 173 2 (pj_rc 14) := pc_O (owner := "PennyJudge$Act") (x := ⟨"PennyJudge$Act", "choose", "(I)V"⟩) dX1_mend_173 msX6_choose (by decide) rfl (Or.inl q998) (Or.inl q1000) q999 q1003 q999 q1022 ⟨by decide, by decide, by decide +kernel⟩
theorem kX1_mend_173_X17 : pj_CA mX1_mend mX6_choose 173 2 (pj_rc 15) := pc_O (owner := "PennyJudge$Act") (x := ⟨"PennyJudge$Act", "choose", "(I)V"⟩) dX1_mend_173 msX6_choose (by decide) rfl (Or.inl q998) (Or.inl q1000) q999 q1002 q999 q1022 ⟨by decide, by decide, by decide +kernel⟩
theorem kX1_mend_173_X18 : pj_CA mX1_mend mX18_choose 173 2 (pj_rc 16) := pc_O (owner := "PennyJudge$Act") (x := ⟨"PennyJudge$Act", "choose", "(I)V"⟩) dX1_mend_173 msX18_choose (by decide) rfl (Or.inl q998) (Or.inl q1000) q1015 q1014 q999 q1022 ⟨by decide, by decide, by decide +kernel⟩
theorem kX1_mend_173_X19 : pj_CA mX1_mend mX6_choose 173 2 (pj_rc 17) := pc_O (owner := "PennyJudge$Act") (x := ⟨"PennyJudge$Act", "choose", "(I)V"⟩) dX1_mend_173 msX6_choose (by decide) rfl (Or.inl q998) (Or.inl q1000) q999 q1005 q999 q1022 ⟨by decide, by decide, by decide +kernel⟩
