/-! tables of code (by tools/gen_tabs.py) -/
set_option maxRecDepth 100000
def tJ4_floor_r0 : List (Option pj_Op) := [some (po_dld 0 1), none, none, none, none]
def tJ4_floor : pj_T := [tJ4_floor_r0]
theorem oJ4_floor_r0 (G : pj_G) : pj_okRow G mJ4_floor 0 tJ4_floor_r0 := ⟨ps_dload_n dJ4_floor_0 rfl, trivial⟩
theorem oJ4_floor (G : pj_G) : pj_okT G mJ4_floor 0 tJ4_floor := ⟨oJ4_floor_r0 G, trivial⟩
theorem kJ4_floor_1 : pj_CA mJ4_floor mJ5_floor 1 1 (fun _ _ => True) := pc_S dJ4_floor_1 msJ5_floor q846 q847
def tJ4_getExponent_r0 : List (Option pj_Op) := [some (po_dld 0 1), none, none, none, some (po_cl (9218868437227405312) 7), none, none, some (po_land 8), some (po_ci 52 10), none, some (po_lshr 11), some (po_cl (1023) 14), none, none, some (po_lsub 15), some (po_l2i 16)]
def tJ4_getExponent_r1 : List (Option pj_Op) := [none]
def tJ4_getExponent : pj_T := [tJ4_getExponent_r0, tJ4_getExponent_r1]
theorem oJ4_getExponent_r0 (G : pj_G) : pj_okRow G mJ4_getExponent 0 tJ4_getExponent_r0 := ⟨ps_dload_n dJ4_getExponent_0 rfl, ps_ldc2 dJ4_getExponent_4 q859, ps_land dJ4_getExponent_7, ps_bipush dJ4_getExponent_8 cc_b_52, ps_lshr dJ4_getExponent_10, ps_ldc2 dJ4_getExponent_11 q860, ps_lsub dJ4_getExponent_14, ps_l2i dJ4_getExponent_15, trivial⟩
theorem oJ4_getExponent_r1 (G : pj_G) : pj_okRow G mJ4_getExponent 16 tJ4_getExponent_r1 := trivial
theorem oJ4_getExponent (G : pj_G) : pj_okT G mJ4_getExponent 0 tJ4_getExponent := ⟨oJ4_getExponent_r0 G, oJ4_getExponent_r1 G, trivial⟩
def tJ4_ceil_r0 : List (Option pj_Op) := [some (po_dld 0 1), none, none, none, none]
def tJ4_ceil : pj_T := [tJ4_ceil_r0]
theorem oJ4_ceil_r0 (G : pj_G) : pj_okRow G mJ4_ceil 0 tJ4_ceil_r0 := ⟨ps_dload_n dJ4_ceil_0 rfl, trivial⟩
theorem oJ4_ceil (G : pj_G) : pj_okT G mJ4_ceil 0 tJ4_ceil := ⟨oJ4_ceil_r0 G, trivial⟩
theorem kJ4_ceil_1 : pj_CA mJ4_ceil mJ5_ceil 1 1 (fun _ _ => True) := pc_S dJ4_ceil_1 msJ5_ceil q879 q880
def tJ4_rint_r0 : List (Option pj_Op) := [some (po_dld 0 1), none, none, none, none]
def tJ4_rint : pj_T := [tJ4_rint_r0]
theorem oJ4_rint_r0 (G : pj_G) : pj_okRow G mJ4_rint 0 tJ4_rint_r0 := ⟨ps_dload_n dJ4_rint_0 rfl, trivial⟩
theorem oJ4_rint (G : pj_G) : pj_okT G mJ4_rint 0 tJ4_rint := ⟨oJ4_rint_r0 G, trivial⟩
theorem kJ4_rint_1 : pj_CA mJ4_rint mJ5_rint 1 1 (fun _ _ => True) := pc_S dJ4_rint_1 msJ5_rint q887 q888
def tJ4_copySign_r0 : List (Option pj_Op) := [some (po_dld 2 1), none, none, none, some (po_cl (-9223372036854775808) 7), none, none, some (po_land 8), some (po_dld 0 9), none, none, none, some (po_cl (9223372036854775807) 15), none, none, some (po_land 16)]
def tJ4_copySign_r1 : List (Option pj_Op) := [some (po_lor 17), none, none, none, none]
def tJ4_copySign : pj_T := [tJ4_copySign_r0, tJ4_copySign_r1]
theorem oJ4_copySign_r0 (G : pj_G) : pj_okRow G mJ4_copySign 0 tJ4_copySign_r0 := ⟨ps_dload_n dJ4_copySign_0 rfl, ps_ldc2 dJ4_copySign_4 q894, ps_land dJ4_copySign_7, ps_dload_n dJ4_copySign_8 rfl, ps_ldc2 dJ4_copySign_12 q895, ps_land dJ4_copySign_15, trivial⟩
theorem oJ4_copySign_r1 (G : pj_G) : pj_okRow G mJ4_copySign 16 tJ4_copySign_r1 := ⟨ps_lor dJ4_copySign_16, trivial⟩
theorem oJ4_copySign (G : pj_G) : pj_okT G mJ4_copySign 0 tJ4_copySign := ⟨oJ4_copySign_r0 G, oJ4_copySign_r1 G, trivial⟩
def tJ4_abs_r0 : List (Option pj_Op) := [some (po_dld 0 1), none, none, none, some (po_cl (9223372036854775807) 7), none, none, some (po_land 8), none, none, none, none]
def tJ4_abs : pj_T := [tJ4_abs_r0]
theorem oJ4_abs_r0 (G : pj_G) : pj_okRow G mJ4_abs 0 tJ4_abs_r0 := ⟨ps_dload_n dJ4_abs_0 rfl, ps_ldc2 dJ4_abs_4 q895, ps_land dJ4_abs_7, trivial⟩
theorem oJ4_abs (G : pj_G) : pj_okT G mJ4_abs 0 tJ4_abs := ⟨oJ4_abs_r0 G, trivial⟩
def tJ5_floor_r0 : List (Option pj_Op) := [some (po_dld 0 1), some (po_cd (13830554455654793216) 4), none, none, some (po_cd FP.dconst0 5), some (po_cd (13830554455654793216) 8), none, none, none, none, none, none]
def tJ5_floor : pj_T := [tJ5_floor_r0]
theorem oJ5_floor_r0 (G : pj_G) : pj_okRow G mJ5_floor 0 tJ5_floor_r0 := ⟨ps_dload_n dJ5_floor_0 rfl, ps_ldc2d dJ5_floor_1 q849, ps_dconst0 dJ5_floor_4, ps_ldc2d dJ5_floor_5 q849, trivial⟩
theorem oJ5_floor (G : pj_G) : pj_okT G mJ5_floor 0 tJ5_floor := ⟨oJ5_floor_r0 G, trivial⟩
theorem kJ5_floor_8 : pj_CA mJ5_floor mJ5_floorOrCeil 8 4 (fun _ _ => True) := pc_S dJ5_floor_8 msJ5_floorOrCeil q850 q851
def tJ5_floorOrCeil_r0 : List (Option pj_Op) := [some (po_dld 0 1), none, none, none, some (po_ist 8 6 15), none, some (po_ild 8 8), none, some (po_if_ge 34 11), none, none, some (po_dld 0 12), some (po_cd FP.dconst0 13), some (po_dcmp .l 14), some (po_if_ne 21 17), none]
def tJ5_floorOrCeil_r1 : List (Option pj_Op) := [none, some (po_dld 0 18), some (po_goto 33), none, none, some (po_dld 0 22), some (po_cd FP.dconst0 23), some (po_dcmp .g 24), some (po_if_ge 31 27), none, none, some (po_dld 2 28), some (po_goto 33), none, none, some (po_dld 4 33)]
def tJ5_floorOrCeil_r2 : List (Option pj_Op) := [none, none, some (po_ild 8 36), none, some (po_ci 52 38), none, some (po_ic_lt 43 41), none, none, some (po_dld 0 42), none, none, none, none, some (po_if_ne 69 49), none]
def tJ5_floorOrCeil_r3 : List (Option pj_Op) := [none, some (po_ild 8 51), none, some (po_if_lt 61 54), none, none, some (po_ild 8 56), none, some (po_ci 51 58), none, some (po_ic_le 69 61), none, none, none, none, none]
def tJ5_floorOrCeil_r4 : List (Option pj_Op) := [some (po_dup 65), none, none, none, none, some (po_dld 0 70), none, none, none, some (po_lst 9 75 15), none, some (po_cl (4503599627370495) 78), none, none, some (po_ild 8 80), none]
def tJ5_floorOrCeil_r5 : List (Option pj_Op) := [some (po_lshr 81), some (po_lst 11 83 15), none, some (po_lld 11 85), none, some (po_lld 9 87), none, some (po_land 88), some (po_cl 0 89), some (po_lcmp 90), some (po_if_ne 95 93), none, none, some (po_dld 0 94), none, some (po_lld 9 97)]
def tJ5_floorOrCeil_r6 : List (Option pj_Op) := [none, some (po_lld 11 99), none, some (po_cl (-1) 102), none, none, some (po_lxor 103), some (po_land 104), none, none, none, some (po_dst 13 109 15), none, some (po_dld 6 111), none, some (po_dld 0 112)]
def tJ5_floorOrCeil_r7 : List (Option pj_Op) := [some (po_dmul 113), some (po_cd FP.dconst0 114), some (po_dcmp .l 115), some (po_if_le 125 118), none, none, some (po_dld 13 120), none, some (po_dld 6 122), none, some (po_dadd 123), some (po_dst 13 125 15), none, some (po_dld 13 127), none, none]
def tJ5_floorOrCeil : pj_T := [tJ5_floorOrCeil_r0, tJ5_floorOrCeil_r1, tJ5_floorOrCeil_r2, tJ5_floorOrCeil_r3, tJ5_floorOrCeil_r4, tJ5_floorOrCeil_r5, tJ5_floorOrCeil_r6, tJ5_floorOrCeil_r7]
theorem oJ5_floorOrCeil_r0 (G : pj_G) : pj_okRow G mJ5_floorOrCeil 0 tJ5_floorOrCeil_r0 := ⟨ps_dload_n dJ5_floorOrCeil_0 rfl, ps_istore dJ5_floorOrCeil_4, ps_iload dJ5_floorOrCeil_6, ps_if_ge dJ5_floorOrCeil_8 (by decide), ps_dload_n dJ5_floorOrCeil_11 rfl, ps_dconst0 dJ5_floorOrCeil_12, ps_dcmp dJ5_floorOrCeil_13, ps_if_ne dJ5_floorOrCeil_14 (by decide), trivial⟩
theorem oJ5_floorOrCeil_r1 (G : pj_G) : pj_okRow G mJ5_floorOrCeil 16 tJ5_floorOrCeil_r1 := ⟨ps_dload_n dJ5_floorOrCeil_17 rfl, ps_goto dJ5_floorOrCeil_18 (by decide), ps_dload_n dJ5_floorOrCeil_21 rfl, ps_dconst0 dJ5_floorOrCeil_22, ps_dcmp dJ5_floorOrCeil_23, ps_if_ge dJ5_floorOrCeil_24 (by decide), ps_dload_n dJ5_floorOrCeil_27 rfl, ps_goto dJ5_floorOrCeil_28 (by decide), ps_dload dJ5_floorOrCeil_31, trivial⟩
theorem oJ5_floorOrCeil_r2 (G : pj_G) : pj_okRow G mJ5_floorOrCeil 32 tJ5_floorOrCeil_r2 := ⟨ps_iload dJ5_floorOrCeil_34, ps_bipush dJ5_floorOrCeil_36 cc_b_52, ps_ic_lt dJ5_floorOrCeil_38 (by decide), ps_dload_n dJ5_floorOrCeil_41 rfl, ps_if_ne dJ5_floorOrCeil_46 (by decide), trivial⟩
theorem oJ5_floorOrCeil_r3 (G : pj_G) : pj_okRow G mJ5_floorOrCeil 48 tJ5_floorOrCeil_r3 := ⟨ps_iload dJ5_floorOrCeil_49, ps_if_lt dJ5_floorOrCeil_51 (by decide), ps_iload dJ5_floorOrCeil_54, ps_bipush dJ5_floorOrCeil_56 cc_b_51, ps_ic_le dJ5_floorOrCeil_58 (by decide), trivial⟩
theorem oJ5_floorOrCeil_r4 (G : pj_G) : pj_okRow G mJ5_floorOrCeil 64 tJ5_floorOrCeil_r4 := ⟨ps_dup dJ5_floorOrCeil_64, ps_dload_n dJ5_floorOrCeil_69 rfl, ps_lstore dJ5_floorOrCeil_73, ps_ldc2 dJ5_floorOrCeil_75 q864, ps_iload dJ5_floorOrCeil_78, trivial⟩
theorem oJ5_floorOrCeil_r5 (G : pj_G) : pj_okRow G mJ5_floorOrCeil 80 tJ5_floorOrCeil_r5 := ⟨ps_lshr dJ5_floorOrCeil_80, ps_lstore dJ5_floorOrCeil_81, ps_lload dJ5_floorOrCeil_83, ps_lload dJ5_floorOrCeil_85, ps_land dJ5_floorOrCeil_87, ps_lconst dJ5_floorOrCeil_88 cc_l_0, ps_lcmp dJ5_floorOrCeil_89, ps_if_ne dJ5_floorOrCeil_90 (by decide), ps_dload_n dJ5_floorOrCeil_93 rfl, ps_lload dJ5_floorOrCeil_95, trivial⟩
theorem oJ5_floorOrCeil_r6 (G : pj_G) : pj_okRow G mJ5_floorOrCeil 96 tJ5_floorOrCeil_r6 := ⟨ps_lload dJ5_floorOrCeil_97, ps_ldc2 dJ5_floorOrCeil_99 q865, ps_lxor dJ5_floorOrCeil_102, ps_land dJ5_floorOrCeil_103, ps_dstore dJ5_floorOrCeil_107, ps_dload dJ5_floorOrCeil_109, ps_dload_n dJ5_floorOrCeil_111 rfl, trivial⟩
theorem oJ5_floorOrCeil_r7 (G : pj_G) : pj_okRow G mJ5_floorOrCeil 112 tJ5_floorOrCeil_r7 := ⟨ps_dmul dJ5_floorOrCeil_112, ps_dconst0 dJ5_floorOrCeil_113, ps_dcmp dJ5_floorOrCeil_114, ps_if_le dJ5_floorOrCeil_115 (by decide), ps_dload dJ5_floorOrCeil_118, ps_dload dJ5_floorOrCeil_120, ps_dadd dJ5_floorOrCeil_122, ps_dstore dJ5_floorOrCeil_123, ps_dload dJ5_floorOrCeil_125, trivial⟩
theorem oJ5_floorOrCeil (G : pj_G) : pj_okT G mJ5_floorOrCeil 0 tJ5_floorOrCeil := ⟨oJ5_floorOrCeil_r0 G, oJ5_floorOrCeil_r1 G, oJ5_floorOrCeil_r2 G, oJ5_floorOrCeil_r3 G, oJ5_floorOrCeil_r4 G, oJ5_floorOrCeil_r5 G, oJ5_floorOrCeil_r6 G, oJ5_floorOrCeil_r7 G, trivial⟩
theorem kJ5_floorOrCeil_1 : pj_CA mJ5_floorOrCeil mJ4_getExponent 1 1 (fun _ _ => True) := pc_S dJ5_floorOrCeil_1 msJ4_getExponent q853 q854
def tJ5_ceil_r0 : List (Option pj_Op) := [some (po_dld 0 1), some (po_cd (9223372036854775808) 4), none, none, some (po_cd FP.dconst1 5), some (po_cd FP.dconst1 6), none, none, none, none]
def tJ5_ceil : pj_T := [tJ5_ceil_r0]
theorem oJ5_ceil_r0 (G : pj_G) : pj_okRow G mJ5_ceil 0 tJ5_ceil_r0 := ⟨ps_dload_n dJ5_ceil_0 rfl, ps_ldc2d dJ5_ceil_1 q882, ps_dconst1 dJ5_ceil_4, ps_dconst1 dJ5_ceil_5, trivial⟩
theorem oJ5_ceil (G : pj_G) : pj_okT G mJ5_ceil 0 tJ5_ceil := ⟨oJ5_ceil_r0 G, trivial⟩
theorem kJ5_ceil_6 : pj_CA mJ5_ceil mJ5_floorOrCeil 6 4 (fun _ _ => True) := pc_S dJ5_ceil_6 msJ5_floorOrCeil q850 q851
def tJ5_rint_r0 : List (Option pj_Op) := [some (po_cd (4841369599423283200) 3), none, none, some (po_dst 2 4 6), some (po_cd FP.dconst1 5), some (po_dld 0 6), none, none, none, some (po_dst 4 11 6), none, some (po_dld 0 12), none, none, none, some (po_dst 0 16 6)]
def tJ5_rint_r1 : List (Option pj_Op) := [some (po_dld 0 17), some (po_dld 2 18), some (po_dcmp .g 19), some (po_if_ge 28 22), none, none, some (po_dld 2 23), some (po_dld 0 24), some (po_dadd 25), some (po_dld 2 26), some (po_dsub 27), some (po_dst 0 28 6), some (po_dld 4 30), none, some (po_dld 0 31), some (po_dmul 32)]
def tJ5_rint_r2 : List (Option pj_Op) := [none]
def tJ5_rint : pj_T := [tJ5_rint_r0, tJ5_rint_r1, tJ5_rint_r2]
theorem oJ5_rint_r0 (G : pj_G) : pj_okRow G mJ5_rint 0 tJ5_rint_r0 := ⟨ps_ldc2d dJ5_rint_0 q890, ps_dstore_n dJ5_rint_3 rfl, ps_dconst1 dJ5_rint_4, ps_dload_n dJ5_rint_5 rfl, ps_dstore dJ5_rint_9, ps_dload_n dJ5_rint_11 rfl, ps_dstore_n dJ5_rint_15 rfl, trivial⟩
theorem oJ5_rint_r1 (G : pj_G) : pj_okRow G mJ5_rint 16 tJ5_rint_r1 := ⟨ps_dload_n dJ5_rint_16 rfl, ps_dload_n dJ5_rint_17 rfl, ps_dcmp dJ5_rint_18, ps_if_ge dJ5_rint_19 (by decide), ps_dload_n dJ5_rint_22 rfl, ps_dload_n dJ5_rint_23 rfl, ps_dadd dJ5_rint_24, ps_dload_n dJ5_rint_25 rfl, ps_dsub dJ5_rint_26, ps_dstore_n dJ5_rint_27 rfl, ps_dload dJ5_rint_28, ps_dload_n dJ5_rint_30 rfl, ps_dmul dJ5_rint_31, trivial⟩
theorem oJ5_rint_r2 (G : pj_G) : pj_okRow G mJ5_rint 32 tJ5_rint_r2 := trivial
theorem oJ5_rint (G : pj_G) : pj_okT G mJ5_rint 0 tJ5_rint := ⟨oJ5_rint_r0 G, oJ5_rint_r1 G, oJ5_rint_r2 G, trivial⟩
