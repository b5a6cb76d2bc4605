/-! ===== the reference: a year ===== -/
set_option maxRecDepth 100000
theorem g_wears_s {K : gK} {T : gT} {n : Nat} : g_wears K (n + 1) T = if g_lack K (g_wears K n T) n = nI 0 then g_str (g_wears K n T) n (t_more (nI 0) (gs (g_wears K n T) n - gwear K)) else g_wears K n T := rfl
theorem g_fills_s {K : gK} {T : gT} {n : Nat} : g_fills K (n + 1) T = g_fill K n 10 (g_fills K n T) := rfl
theorem g_deaths_s {K : gK} {T : gT} {d : Int32} {n : Nat} : g_deaths K d (n + 1) T = if (g_al K (g_deaths K d n T) n && (decide (gdies K n = gy (g_deaths K d n T)) || t_has d n)) = true then g_die K (g_deaths K d n T) n else g_deaths K d n T := rfl
theorem g_lots_s {K : gK} {T : gT} {b l : Int32} {n : Nat} : g_lots K T b (n + 1) l = if g_al K T n = true then (g_lot (g_lots K T b n l).1, (g_lots K T b n l).2 ||| (if b ≤ ((g_lot (g_lots K T b n l).1 >>> (nI 16 &&& 31)) &&& nI 15) then nI 0 else t_bit n)) else g_lots K T b n l := rfl
abbrev bX11_goes_0 : List xE := [(.aload_n 1, 1, 0, 0, 0), (.bipush 106, 3, 0, 0, 0), (.dup2, 4, 0, 0, 0), (.iaload, 5, 0, 0, 0), (.iconst 1, 6, 0, 0, 0), (.iadd, 7, 0, 0, 0), (.iastore, 8, 0, 0, 0), (.iconst 0, 9, 0, 0, 0), (.istore_n 2, 10, 0, 0, 0), (.iconst 0, 11, 0, 0, 0), (.istore_n 3, 12, 0, 0, 0)]
abbrev bX11_goes_12 : List xE := [(.iload_n 3, 13, 0, 0, 0), (.aload_n 0, 14, 0, 0, 0), (.getfield 23, 17, 8, 12, 1), (.iconst 0, 18, 0, 0, 0), (.iaload, 19, 0, 0, 0), (.if_icmp .ge 71, 22, 0, 90, 0), (.aload_n 0, 23, 0, 0, 0), (.getfield 371, 26, 8, 45, 0), (.ifCond .le 64, 29, 0, 90, 0), (.aload_n 0, 30, 0, 0, 0), (.aload_n 1, 31, 0, 0, 0), (.iload_n 3, 32, 0, 0, 0), (.invokevirtual 320, 35, 0, 0, 9), (.ifCond .ne 6, 38, 0, 41, 0), (.goto 46, 41, 0, 84, 0)]
abbrev bX11_goes_41 : List xE := [(.aload_n 0, 42, 0, 0, 0), (.aload_n 0, 43, 0, 0, 0), (.getfield 374, 46, 8, 44, 0), (.ldc_w 377, 49, 1103515245, 0, 0), (.imul, 50, 0, 0, 0), (.sipush 12345, 53, 0, 0, 0), (.iadd, 54, 0, 0, 0), (.putfield 374, 57, 8, 44, 0), (.iload_n 2, 58, 0, 0, 0), (.aload_n 0, 59, 0, 0, 0), (.getfield 374, 62, 8, 44, 0), (.bipush 16, 64, 0, 0, 0), (.ishr, 65, 0, 0, 0), (.bipush 15, 67, 0, 0, 0), (.iand, 68, 0, 0, 0), (.aload_n 0, 69, 0, 0, 0), (.getfield 371, 72, 8, 45, 0), (.if_icmp .ge 9, 75, 0, 81, 0), (.iconst 1, 76, 0, 0, 0), (.iload_n 3, 77, 0, 0, 0), (.ishl, 78, 0, 0, 0), (.goto 4, 81, 0, 82, 0)]
abbrev bX11_goes_81 : List xE := [(.iconst 0, 82, 0, 0, 0)]
abbrev bX11_goes_82 : List xE := [(.ior, 83, 0, 0, 0), (.istore_n 2, 84, 0, 0, 0)]
abbrev bX11_goes_84 : List xE := [(.iinc 3 1, 87, 0, 0, 0), (.goto (-75), 90, 0, 12, 0)]
abbrev bX11_goes_90 : List xE := [(.iconst 0, 91, 0, 0, 0), (.istore_n 3, 92, 0, 0, 0)]
abbrev bX11_goes_92 : List xE := [(.iload_n 3, 93, 0, 0, 0), (.aload_n 0, 94, 0, 0, 0), (.getfield 23, 97, 8, 12, 1), (.iconst 0, 98, 0, 0, 0), (.iaload, 99, 0, 0, 0), (.if_icmp .ge 47, 102, 0, 146, 0), (.aload_n 0, 103, 0, 0, 0), (.aload_n 1, 104, 0, 0, 0), (.iload_n 3, 105, 0, 0, 0), (.invokevirtual 320, 108, 0, 0, 9), (.ifCond .eq 32, 111, 0, 140, 0), (.aload_n 0, 112, 0, 0, 0), (.getfield 49, 115, 8, 20, 1), (.iload_n 3, 116, 0, 0, 0), (.aaload, 117, 0, 0, 0), (.iconst 2, 118, 0, 0, 0), (.iaload, 119, 0, 0, 0), (.aload_n 1, 120, 0, 0, 0), (.bipush 106, 122, 0, 0, 0), (.iaload, 123, 0, 0, 0), (.if_icmp .eq 11, 126, 0, 134, 0), (.iload_n 2, 127, 0, 0, 0), (.iload_n 3, 128, 0, 0, 0), (.invokestatic 242, 131, 0, 1, 9), (.ifCond .eq 9, 134, 0, 140, 0)]
abbrev bX11_goes_134 : List xE := [(.aload_n 0, 135, 0, 0, 0), (.aload_n 1, 136, 0, 0, 0), (.iload_n 3, 137, 0, 0, 0), (.invokevirtual 378, 140, 0, 2, 9)]
abbrev bX11_goes_140 : List xE := [(.iinc 3 1, 143, 0, 0, 0), (.goto (-51), 146, 0, 92, 0)]
abbrev bX11_goes_146 : List xE := [(.iconst 0, 147, 0, 0, 0), (.istore_n 3, 148, 0, 0, 0)]
abbrev bX11_goes_148 : List xE := [(.iload_n 3, 149, 0, 0, 0), (.aload_n 0, 150, 0, 0, 0), (.getfield 23, 153, 8, 12, 1), (.iconst 1, 154, 0, 0, 0), (.iaload, 155, 0, 0, 0), (.if_icmp .ge 84, 158, 0, 239, 0), (.iconst 0, 159, 0, 0, 0), (.istore 4, 161, 0, 0, 0)]
abbrev bX11_goes_161 : List xE := [(.aload_n 0, 162, 0, 0, 0), (.aload_n 1, 163, 0, 0, 0), (.iload_n 3, 164, 0, 0, 0), (.invokevirtual 341, 167, 0, 3, 9), (.ifCond .le 66, 170, 0, 233, 0), (.iload 4, 172, 0, 0, 0), (.iconst (-1), 173, 0, 0, 0), (.if_icmp .eq 60, 176, 0, 233, 0), (.aload_n 0, 177, 0, 0, 0), (.aload_n 1, 178, 0, 0, 0), (.iload_n 3, 179, 0, 0, 0), (.invokevirtual 364, 182, 0, 4, 9), (.istore 4, 184, 0, 0, 0), (.iload 4, 186, 0, 0, 0), (.iconst (-1), 187, 0, 0, 0), (.if_icmp .ne 6, 190, 0, 193, 0), (.goto (-29), 193, 0, 161, 0)]
abbrev bX11_goes_193 : List xE := [(.aload_n 0, 194, 0, 0, 0), (.aload_n 1, 195, 0, 0, 0), (.iload_n 3, 196, 0, 0, 0), (.iload 4, 198, 0, 0, 0), (.invokevirtual 382, 201, 0, 5, 9), (.aload_n 1, 202, 0, 0, 0), (.bipush 97, 204, 0, 0, 0), (.iload 4, 206, 0, 0, 0), (.iadd, 207, 0, 0, 0), (.aload_n 1, 208, 0, 0, 0), (.bipush 97, 210, 0, 0, 0), (.iload 4, 212, 0, 0, 0), (.iadd, 213, 0, 0, 0), (.iaload, 214, 0, 0, 0), (.iconst (-1), 215, 0, 0, 0), (.if_icmp .ne 7, 218, 0, 222, 0), (.iload_n 3, 219, 0, 0, 0), (.goto 10, 222, 0, 229, 0)]
abbrev bX11_goes_222 : List xE := [(.aload_n 1, 223, 0, 0, 0), (.bipush 97, 225, 0, 0, 0), (.iload 4, 227, 0, 0, 0), (.iadd, 228, 0, 0, 0), (.iaload, 229, 0, 0, 0)]
abbrev bX11_goes_229 : List xE := [(.iastore, 230, 0, 0, 0), (.goto (-69), 233, 0, 161, 0)]
abbrev bX11_goes_233 : List xE := [(.iinc 3 1, 236, 0, 0, 0), (.goto (-88), 239, 0, 148, 0)]
abbrev bX11_goes_239 : List xE := [(.iconst 0, 240, 0, 0, 0), (.istore_n 3, 241, 0, 0, 0)]
abbrev bX11_goes_241 : List xE := [(.iload_n 3, 242, 0, 0, 0), (.aload_n 0, 243, 0, 0, 0), (.getfield 23, 246, 8, 12, 1), (.iconst 1, 247, 0, 0, 0), (.iaload, 248, 0, 0, 0), (.if_icmp .ge 41, 251, 0, 289, 0), (.aload_n 0, 252, 0, 0, 0), (.aload_n 1, 253, 0, 0, 0), (.iload_n 3, 254, 0, 0, 0), (.invokevirtual 341, 257, 0, 3, 9), (.ifCond .ne 26, 260, 0, 283, 0), (.aload_n 1, 261, 0, 0, 0), (.bipush 9, 263, 0, 0, 0), (.iload_n 3, 264, 0, 0, 0), (.iadd, 265, 0, 0, 0), (.iconst 0, 266, 0, 0, 0), (.aload_n 1, 267, 0, 0, 0), (.bipush 9, 269, 0, 0, 0), (.iload_n 3, 270, 0, 0, 0), (.iadd, 271, 0, 0, 0), (.iaload, 272, 0, 0, 0), (.aload_n 0, 273, 0, 0, 0), (.getfield 23, 276, 8, 12, 1), (.iconst 3, 277, 0, 0, 0), (.iaload, 278, 0, 0, 0), (.isub, 279, 0, 0, 0), (.invokestatic 313, 282, 0, 6, 9), (.iastore, 283, 0, 0, 0)]
abbrev bX11_goes_283 : List xE := [(.iinc 3 1, 286, 0, 0, 0), (.goto (-45), 289, 0, 241, 0)]
abbrev bX11_goes_289 : List xE := [(.return_, 290, 0, 0, 0)]
abbrev kX11_goes : List (Nat × List xE) := [(0, bX11_goes_0), (12, bX11_goes_12), (41, bX11_goes_41), (81, bX11_goes_81), (82, bX11_goes_82), (84, bX11_goes_84), (90, bX11_goes_90), (92, bX11_goes_92), (134, bX11_goes_134), (140, bX11_goes_140), (146, bX11_goes_146), (148, bX11_goes_148), (161, bX11_goes_161), (193, bX11_goes_193), (222, bX11_goes_222), (229, bX11_goes_229), (233, bX11_goes_233), (239, bX11_goes_239), (241, bX11_goes_241), (283, bX11_goes_283), (289, bX11_goes_289)]
abbrev lX11_goes : List (Nat × Nat × Nat × xS) := [(3, 0, 0, xm_this 8 S_X11_isAlive), (2, 0, 0, S_X11_has), (3, 0, 0, xm_this 8 S_X11_diesOf), (3, 0, 0, xm_this 8 S_X11_lacksOf), (3, 0, 0, xm_this 8 S_X11_chosen), (4, 0, 0, xm_this 8 S_X11_begins), (2, 0, 0, S_X11_more)]
theorem oX11_goes_0 {Iv : xI} (hI : xm_good Iv)  : xm_okb Iv RX11 cX11_goes false 6 lX11_goes bX11_goes_0 0 := xo_0 dX11_goes_0 rfl trivial (xo_0 dX11_goes_1 rfl (xo_bipush (by decide +kernel)) (xo_0 dX11_goes_3 rfl trivial (xo_0 dX11_goes_4 rfl trivial (xo_0 dX11_goes_5 rfl trivial (xo_0 dX11_goes_6 rfl trivial (xo_0 dX11_goes_7 rfl trivial (xo_0 dX11_goes_8 rfl trivial (xo_0 dX11_goes_9 rfl trivial (xo_0 dX11_goes_10 rfl trivial (xo_0 dX11_goes_11 rfl trivial (xo_n)))))))))))
theorem oX11_goes_12 {Iv : xI} (hI : xm_good Iv)  : xm_okb Iv RX11 cX11_goes false 6 lX11_goes bX11_goes_12 12 := xo_0 dX11_goes_12 rfl trivial (xo_0 dX11_goes_13 rfl trivial (xo_1 dX11_goes_14 rfl (xm_fg_of (Or.inl q1967) (by decide) rfl (by decide) rfl rfl (Or.inl rfl) rfl) (xo_0 dX11_goes_17 rfl trivial (xo_0 dX11_goes_18 rfl trivial (xo_0 dX11_goes_19 rfl rfl (xo_0 dX11_goes_22 rfl trivial (xo_0 dX11_goes_23 rfl (xm_fg_of (Or.inl q2000) (by decide) rfl (by decide) rfl rfl (Or.inl rfl) rfl) (xo_0 dX11_goes_26 rfl rfl (xo_0 dX11_goes_29 rfl trivial (xo_0 dX11_goes_30 rfl trivial (xo_0 dX11_goes_31 rfl trivial (xo_c rfl (cv_X11_isAlive hI dX11_goes_32 (Or.inl q2292) (by decide)) (xo_0 dX11_goes_35 rfl rfl (xo_0 dX11_goes_38 rfl rfl (xo_n)))))))))))))))
theorem oX11_goes_41 {Iv : xI} (hI : xm_good Iv)  : xm_okb Iv RX11 cX11_goes false 6 lX11_goes bX11_goes_41 41 := xo_0 dX11_goes_41 rfl trivial (xo_0 dX11_goes_42 rfl trivial (xo_0 dX11_goes_43 rfl (xm_fg_of (Or.inl q1999) (by decide) rfl (by decide) rfl rfl (Or.inl rfl) rfl) (xo_0 dX11_goes_46 rfl q2382 (xo_0 dX11_goes_49 rfl trivial (xo_0 dX11_goes_50 rfl (xo_sipush (by decide +kernel)) (xo_0 dX11_goes_53 rfl trivial (xo_0 dX11_goes_54 rfl (xm_fp_of (xm_fg_of (Or.inl q1999) (by decide) rfl (by decide) rfl rfl (Or.inl rfl) rfl) (by decide) rfl (Or.inl ⟨rfl, rfl⟩) rfl) (xo_0 dX11_goes_57 rfl trivial (xo_0 dX11_goes_58 rfl trivial (xo_0 dX11_goes_59 rfl (xm_fg_of (Or.inl q1999) (by decide) rfl (by decide) rfl rfl (Or.inl rfl) rfl) (xo_0 dX11_goes_62 rfl (xo_bipush (by decide +kernel)) (xo_0 dX11_goes_64 rfl trivial (xo_0 dX11_goes_65 rfl (xo_bipush (by decide +kernel)) (xo_0 dX11_goes_67 rfl trivial (xo_0 dX11_goes_68 rfl trivial (xo_0 dX11_goes_69 rfl (xm_fg_of (Or.inl q2000) (by decide) rfl (by decide) rfl rfl (Or.inl rfl) rfl) (xo_0 dX11_goes_72 rfl rfl (xo_0 dX11_goes_75 rfl trivial (xo_0 dX11_goes_76 rfl trivial (xo_0 dX11_goes_77 rfl trivial (xo_0 dX11_goes_78 rfl rfl (xo_n))))))))))))))))))))))
theorem oX11_goes_81 {Iv : xI} (hI : xm_good Iv)  : xm_okb Iv RX11 cX11_goes false 6 lX11_goes bX11_goes_81 81 := xo_0 dX11_goes_81 rfl trivial (xo_n)
theorem oX11_goes_82 {Iv : xI} (hI : xm_good Iv)  : xm_okb Iv RX11 cX11_goes false 6 lX11_goes bX11_goes_82 82 := xo_0 dX11_goes_82 rfl trivial (xo_0 dX11_goes_83 rfl trivial (xo_n))
theorem oX11_goes_84 {Iv : xI} (hI : xm_good Iv)  : xm_okb Iv RX11 cX11_goes false 6 lX11_goes bX11_goes_84 84 := xo_0 dX11_goes_84 rfl trivial (xo_0 dX11_goes_87 rfl rfl (xo_n))
theorem oX11_goes_90 {Iv : xI} (hI : xm_good Iv)  : xm_okb Iv RX11 cX11_goes false 6 lX11_goes bX11_goes_90 90 := xo_0 dX11_goes_90 rfl trivial (xo_0 dX11_goes_91 rfl trivial (xo_n))
theorem oX11_goes_92 {Iv : xI} (hI : xm_good Iv)  : xm_okb Iv RX11 cX11_goes false 6 lX11_goes bX11_goes_92 92 := xo_0 dX11_goes_92 rfl trivial (xo_0 dX11_goes_93 rfl trivial (xo_1 dX11_goes_94 rfl (xm_fg_of (Or.inl q1967) (by decide) rfl (by decide) rfl rfl (Or.inl rfl) rfl) (xo_0 dX11_goes_97 rfl trivial (xo_0 dX11_goes_98 rfl trivial (xo_0 dX11_goes_99 rfl rfl (xo_0 dX11_goes_102 rfl trivial (xo_0 dX11_goes_103 rfl trivial (xo_0 dX11_goes_104 rfl trivial (xo_c rfl (cv_X11_isAlive hI dX11_goes_105 (Or.inl q2292) (by decide)) (xo_0 dX11_goes_108 rfl rfl (xo_0 dX11_goes_111 rfl trivial (xo_1 dX11_goes_112 rfl (xm_fg_of (Or.inl q1975) (by decide) rfl (by decide) rfl rfl (Or.inl rfl) rfl) (xo_0 dX11_goes_115 rfl trivial (xo_0 dX11_goes_116 rfl trivial (xo_0 dX11_goes_117 rfl trivial (xo_0 dX11_goes_118 rfl trivial (xo_0 dX11_goes_119 rfl trivial (xo_0 dX11_goes_120 rfl (xo_bipush (by decide +kernel)) (xo_0 dX11_goes_122 rfl trivial (xo_0 dX11_goes_123 rfl rfl (xo_0 dX11_goes_126 rfl trivial (xo_0 dX11_goes_127 rfl trivial (xo_c rfl (cv_X11_has hI dX11_goes_128 (Or.inl q1945) (by decide)) (xo_0 dX11_goes_131 rfl rfl (xo_n)))))))))))))))))))))))))
theorem oX11_goes_134 {Iv : xI} (hI : xm_good Iv)  : xm_okb Iv RX11 cX11_goes false 6 lX11_goes bX11_goes_134 134 := xo_0 dX11_goes_134 rfl trivial (xo_0 dX11_goes_135 rfl trivial (xo_0 dX11_goes_136 rfl trivial (xo_c rfl (cv_X11_diesOf hI dX11_goes_137 (Or.inl q2383) (by decide)) (xo_n))))
theorem oX11_goes_140 {Iv : xI} (hI : xm_good Iv)  : xm_okb Iv RX11 cX11_goes false 6 lX11_goes bX11_goes_140 140 := xo_0 dX11_goes_140 rfl trivial (xo_0 dX11_goes_143 rfl rfl (xo_n))
theorem oX11_goes_146 {Iv : xI} (hI : xm_good Iv)  : xm_okb Iv RX11 cX11_goes false 6 lX11_goes bX11_goes_146 146 := xo_0 dX11_goes_146 rfl trivial (xo_0 dX11_goes_147 rfl trivial (xo_n))
theorem oX11_goes_148 {Iv : xI} (hI : xm_good Iv)  : xm_okb Iv RX11 cX11_goes false 6 lX11_goes bX11_goes_148 148 := xo_0 dX11_goes_148 rfl trivial (xo_0 dX11_goes_149 rfl trivial (xo_1 dX11_goes_150 rfl (xm_fg_of (Or.inl q1967) (by decide) rfl (by decide) rfl rfl (Or.inl rfl) rfl) (xo_0 dX11_goes_153 rfl trivial (xo_0 dX11_goes_154 rfl trivial (xo_0 dX11_goes_155 rfl rfl (xo_0 dX11_goes_158 rfl trivial (xo_0 dX11_goes_159 rfl trivial (xo_n))))))))
theorem oX11_goes_161 {Iv : xI} (hI : xm_good Iv)  : xm_okb Iv RX11 cX11_goes false 6 lX11_goes bX11_goes_161 161 := xo_0 dX11_goes_161 rfl trivial (xo_0 dX11_goes_162 rfl trivial (xo_0 dX11_goes_163 rfl trivial (xo_c rfl (cv_X11_lacksOf hI dX11_goes_164 (Or.inl q2323) (by decide)) (xo_0 dX11_goes_167 rfl rfl (xo_0 dX11_goes_170 rfl trivial (xo_0 dX11_goes_172 rfl trivial (xo_0 dX11_goes_173 rfl rfl (xo_0 dX11_goes_176 rfl trivial (xo_0 dX11_goes_177 rfl trivial (xo_0 dX11_goes_178 rfl trivial (xo_c rfl (cv_X11_chosen hI dX11_goes_179 (Or.inl q2362) (by decide)) (xo_0 dX11_goes_182 rfl trivial (xo_0 dX11_goes_184 rfl trivial (xo_0 dX11_goes_186 rfl trivial (xo_0 dX11_goes_187 rfl rfl (xo_0 dX11_goes_190 rfl rfl (xo_n)))))))))))))))))
theorem oX11_goes_193 {Iv : xI} (hI : xm_good Iv)  : xm_okb Iv RX11 cX11_goes false 6 lX11_goes bX11_goes_193 193 := xo_0 dX11_goes_193 rfl trivial (xo_0 dX11_goes_194 rfl trivial (xo_0 dX11_goes_195 rfl trivial (xo_0 dX11_goes_196 rfl trivial (xo_c rfl (cv_X11_begins hI dX11_goes_198 (Or.inl q2391) (by decide)) (xo_0 dX11_goes_201 rfl trivial (xo_0 dX11_goes_202 rfl (xo_bipush (by decide +kernel)) (xo_0 dX11_goes_204 rfl trivial (xo_0 dX11_goes_206 rfl trivial (xo_0 dX11_goes_207 rfl trivial (xo_0 dX11_goes_208 rfl (xo_bipush (by decide +kernel)) (xo_0 dX11_goes_210 rfl trivial (xo_0 dX11_goes_212 rfl trivial (xo_0 dX11_goes_213 rfl trivial (xo_0 dX11_goes_214 rfl trivial (xo_0 dX11_goes_215 rfl rfl (xo_0 dX11_goes_218 rfl trivial (xo_0 dX11_goes_219 rfl rfl (xo_n))))))))))))))))))
theorem oX11_goes_222 {Iv : xI} (hI : xm_good Iv)  : xm_okb Iv RX11 cX11_goes false 6 lX11_goes bX11_goes_222 222 := xo_0 dX11_goes_222 rfl trivial (xo_0 dX11_goes_223 rfl (xo_bipush (by decide +kernel)) (xo_0 dX11_goes_225 rfl trivial (xo_0 dX11_goes_227 rfl trivial (xo_0 dX11_goes_228 rfl trivial (xo_n)))))
theorem oX11_goes_229 {Iv : xI} (hI : xm_good Iv)  : xm_okb Iv RX11 cX11_goes false 6 lX11_goes bX11_goes_229 229 := xo_0 dX11_goes_229 rfl trivial (xo_0 dX11_goes_230 rfl rfl (xo_n))
theorem oX11_goes_233 {Iv : xI} (hI : xm_good Iv)  : xm_okb Iv RX11 cX11_goes false 6 lX11_goes bX11_goes_233 233 := xo_0 dX11_goes_233 rfl trivial (xo_0 dX11_goes_236 rfl rfl (xo_n))
theorem oX11_goes_239 {Iv : xI} (hI : xm_good Iv)  : xm_okb Iv RX11 cX11_goes false 6 lX11_goes bX11_goes_239 239 := xo_0 dX11_goes_239 rfl trivial (xo_0 dX11_goes_240 rfl trivial (xo_n))
theorem oX11_goes_241 {Iv : xI} (hI : xm_good Iv)  : xm_okb Iv RX11 cX11_goes false 6 lX11_goes bX11_goes_241 241 := xo_0 dX11_goes_241 rfl trivial (xo_0 dX11_goes_242 rfl trivial (xo_1 dX11_goes_243 rfl (xm_fg_of (Or.inl q1967) (by decide) rfl (by decide) rfl rfl (Or.inl rfl) rfl) (xo_0 dX11_goes_246 rfl trivial (xo_0 dX11_goes_247 rfl trivial (xo_0 dX11_goes_248 rfl rfl (xo_0 dX11_goes_251 rfl trivial (xo_0 dX11_goes_252 rfl trivial (xo_0 dX11_goes_253 rfl trivial (xo_c rfl (cv_X11_lacksOf hI dX11_goes_254 (Or.inl q2323) (by decide)) (xo_0 dX11_goes_257 rfl rfl (xo_0 dX11_goes_260 rfl trivial (xo_0 dX11_goes_261 rfl (xo_bipush (by decide +kernel)) (xo_0 dX11_goes_263 rfl trivial (xo_0 dX11_goes_264 rfl trivial (xo_0 dX11_goes_265 rfl trivial (xo_0 dX11_goes_266 rfl trivial (xo_0 dX11_goes_267 rfl (xo_bipush (by decide +kernel)) (xo_0 dX11_goes_269 rfl trivial (xo_0 dX11_goes_270 rfl trivial (xo_0 dX11_goes_271 rfl trivial (xo_0 dX11_goes_272 rfl trivial (xo_1 dX11_goes_273 rfl (xm_fg_of (Or.inl q1967) (by decide) rfl (by decide) rfl rfl (Or.inl rfl) rfl) (xo_0 dX11_goes_276 rfl trivial (xo_0 dX11_goes_277 rfl trivial (xo_0 dX11_goes_278 rfl trivial (xo_c rfl (cv_X11_more hI dX11_goes_279 (Or.inl q2312) (by decide)) (xo_0 dX11_goes_282 rfl trivial (xo_n))))))))))))))))))))))))))))
theorem oX11_goes_283 {Iv : xI} (hI : xm_good Iv)  : xm_okb Iv RX11 cX11_goes false 6 lX11_goes bX11_goes_283 283 := xo_0 dX11_goes_283 rfl trivial (xo_0 dX11_goes_286 rfl rfl (xo_n))
theorem oX11_goes_289 {Iv : xI} (hI : xm_good Iv)  : xm_okb Iv RX11 cX11_goes false 6 lX11_goes bX11_goes_289 289 := xo_0 dX11_goes_289 rfl trivial (xo_n)
theorem oX11_goes {Iv : xI} (hI : xm_good Iv)  : ∀ q ∈ kX11_goes, xm_okb Iv RX11 cX11_goes false 6 lX11_goes q.2 q.1 := by
  intro q hq
  simp only [List.mem_cons, List.not_mem_nil, or_false] at hq
  rcases hq with rfl | rfl | rfl | rfl | rfl | rfl | rfl | rfl | rfl | rfl | rfl | rfl | rfl | rfl | rfl | rfl | rfl | rfl | rfl | rfl | rfl
  · exact oX11_goes_0 hI  
  · exact oX11_goes_12 hI  
  · exact oX11_goes_41 hI  
  · exact oX11_goes_81 hI  
  · exact oX11_goes_82 hI  
  · exact oX11_goes_84 hI  
  · exact oX11_goes_90 hI  
  · exact oX11_goes_92 hI  
  · exact oX11_goes_134 hI  
  · exact oX11_goes_140 hI  
  · exact oX11_goes_146 hI  
  · exact oX11_goes_148 hI  
  · exact oX11_goes_161 hI  
  · exact oX11_goes_193 hI  
  · exact oX11_goes_222 hI  
  · exact oX11_goes_229 hI  
  · exact oX11_goes_233 hI  
  · exact oX11_goes_239 hI  
  · exact oX11_goes_241 hI  
  · exact oX11_goes_283 hI  
  · exact oX11_goes_289 hI  
def S_X11_goes : xS := tU fun as I Q => ∃ row, as = [.ref 0, .ref row] ∧ t_row row ∧ t_ok I ∧ t_lok I ∧ ∀ J, t_sl row I J → g_goesL (tK I) (I 0 45) (I 0 44, tA I row) = (J 0 44, tA J row) → Q none J
theorem body_X11_goes : xm_Body 5 2 0 0 [] lX11_goes kX11_goes S_X11_goes := by
  intro X avs w Q QX hX0 hS
  have hG := xm_go [] hX0
  have hX := xm_go [12,92,148,161,241] hX0
  clear hX0
  obtain ⟨I, rfl, row, rfl, hr, hok, hl, hQ⟩ := hS
  have hrs : t_rs row := Or.inl hr
  obtain ⟨hn, h9, hm, h8, -⟩ := id hok
  have h12 : ∀ J, t_sl row I J → J 12 = I 12 := fun J hJ => hJ.fx hrs 12 (Or.inl rfl)
  have hr0 := t_row_0 hr
  have l4 : ∀ T l d o, (o = none ∨ ∃ z, o = some (.int z)) → (g_drawn (tK I) (g_next (tA I row)) (I 0 45) (I 0 44)).1 = l → g_ends (tK I) (g_drawn (tK I) (g_next (tA I row)) (I 0 45) (I 0 44)).2 (g_next (tA I row)) = g_wears (tK I) (t_p I) T → ∀ k, k ≤ t_p I → ∀ J, t_sl row I J → J 0 44 = l → tA J row = g_wears (tK I) k T → X 241 [some (.ref 0), some (.ref row), some (.int d), some (.int (nI k)), o] [] (tW J) 0 0 := by
    intro T l d o ho e1 e2
    refine t_for fun k h1 ih J hJ hJl hA => ?_
    have hm' : J 12 1 = nI (t_p I) := by rw [h12 J hJ]; exact hm
    have ep : t_p J = t_p I := hJ.p hrs
    have eK := hJ.K hrs hok hl
    have hokJ := hJ.ok hrs hok
    have e3 : gwear (tK I) = J 12 3 := by rw [h12 J hJ]; rfl
    have hend : k = t_p I → Q none (tW J) := fun e => by
      subst e
      refine hQ J hJ ?_
      show (_, _) = _
      rw [e1, hJl, e2, hA]
    rcases ho with rfl | ⟨z, rfl⟩
    all_goals
      refine hG _ _ _ _ _ _ ?_
      (conv => whnf)
      repeat' (first
        | ((with_reducible refine @And.intro (vp_in _ _) _ ?_ ?_); (· (first | with_reducible assumption | ((with_reducible refine t_vin ?_); decide) | ((with_reducible refine vp_in_nI ?_ ?_) <;> first | omega | decide) | (simp (disch := omega) only [xl_n, xl_m, nI_dec, nI_sb, nI_add, pk_mul]; (with_reducible refine vp_in_nI ?_ ?_) <;> first | omega | decide))); (conv => whnf))
        | (refine And.intro (by first | with_reducible assumption | exact (show tL _ = _ from rfl) | decide) ?_; (conv => whnf))
        | ((with_reducible refine @And.intro (_ = _) _ ?_ ?_); (· rfl); (conv => whnf))
        | ((with_reducible refine @And.intro (@LE.le Nat _ _ _) _ ?_ ?_); (· (first | exact Nat.zero_le _ | exact Nat.le_of_ble_eq_true rfl | omega)); (conv => whnf))
        | ((with_reducible refine @And.intro (@LT.lt Nat _ _ _) _ ?_ ?_); (· omega); (conv => whnf))
        | ((with_reducible refine @And.intro (∃ _, _ = _) _ ?_ ?_); (· exact ⟨_, rfl⟩); (conv => whnf))
        | ((with_reducible refine @And.intro (_ ∨ _) _ ?_ ?_); (· (first | exact Or.inl rfl | exact Or.inr rfl | exact t_b01 _ | assumption)); (conv => whnf))
        | ((with_reducible refine @And.intro (¬ (_ = _)) _ ?_ ?_); (· first | assumption | (with_reducible assumption)); (conv => whnf))
        | (refine hX _ _ _ _ _ _ ?_; (conv => whnf); fail_if_success show False)
        | (rw [t_si]; (conv => whnf))
        | (refine ⟨_, rfl, ?_⟩; (conv => whnf))
        | (refine ⟨_, _, rfl, ?_⟩; (conv => whnf))
        | (refine ⟨_, _, _, rfl, ?_⟩; (conv => whnf))
        | (refine ⟨_, _, _, _, rfl, ?_⟩; (conv => whnf))
        | fail)
      refine And.intro (fun c => ?_) (fun c => ?_) <;> (conv => whnf)
      · repeat' (first
          | ((with_reducible refine @And.intro (vp_in _ _) _ ?_ ?_); (· (first | with_reducible assumption | ((with_reducible refine t_vin ?_); decide) | ((with_reducible refine vp_in_nI ?_ ?_) <;> first | omega | decide) | (simp (disch := omega) only [xl_n, xl_m, nI_dec, nI_sb, nI_add, pk_mul]; (with_reducible refine vp_in_nI ?_ ?_) <;> first | omega | decide))); (conv => whnf))
          | (refine And.intro (by first | with_reducible assumption | exact (show tL _ = _ from rfl) | decide) ?_; (conv => whnf))
          | ((with_reducible refine @And.intro (_ = _) _ ?_ ?_); (· rfl); (conv => whnf))
          | ((with_reducible refine @And.intro (@LE.le Nat _ _ _) _ ?_ ?_); (· (first | exact Nat.zero_le _ | exact Nat.le_of_ble_eq_true rfl | omega)); (conv => whnf))
          | ((with_reducible refine @And.intro (@LT.lt Nat _ _ _) _ ?_ ?_); (· omega); (conv => whnf))
          | ((with_reducible refine @And.intro (∃ _, _ = _) _ ?_ ?_); (· exact ⟨_, rfl⟩); (conv => whnf))
          | ((with_reducible refine @And.intro (_ ∨ _) _ ?_ ?_); (· (first | exact Or.inl rfl | exact Or.inr rfl | exact t_b01 _ | assumption)); (conv => whnf))
          | ((with_reducible refine @And.intro (¬ (_ = _)) _ ?_ ?_); (· first | assumption | (with_reducible assumption)); (conv => whnf))
          | (refine hX _ _ _ _ _ _ ?_; (conv => whnf); fail_if_success show False)
          | (rw [t_si]; (conv => whnf))
          | (refine ⟨_, rfl, ?_⟩; (conv => whnf))
          | (refine ⟨_, _, rfl, ?_⟩; (conv => whnf))
          | (refine ⟨_, _, _, rfl, ?_⟩; (conv => whnf))
          | (refine ⟨_, _, _, _, rfl, ?_⟩; (conv => whnf))
          | (refine And.intro (fun c => ?_) (fun c => ?_) <;> (first | (exact absurd c (by decide +kernel)) | (conv => whnf)))
          | fail)
        exact hend (Nat.le_antisymm h1 (t_kge hm' c (by omega) (by omega)))
      · have hk : k < t_p I := t_klt hm' c (by omega)
        have hkJ : k < t_p J := by omega
        repeat' (first
          | ((with_reducible refine @And.intro (vp_in _ _) _ ?_ ?_); (· (first | with_reducible assumption | ((with_reducible refine t_vin ?_); decide) | ((with_reducible refine vp_in_nI ?_ ?_) <;> first | omega | decide) | (simp (disch := omega) only [xl_n, xl_m, nI_dec, nI_sb, nI_add, pk_mul]; (with_reducible refine vp_in_nI ?_ ?_) <;> first | omega | decide))); (conv => whnf))
          | (refine And.intro (by first | with_reducible assumption | exact (show tL _ = _ from rfl) | decide) ?_; (conv => whnf))
          | ((with_reducible refine @And.intro (_ = _) _ ?_ ?_); (· rfl); (conv => whnf))
          | ((with_reducible refine @And.intro (@LE.le Nat _ _ _) _ ?_ ?_); (· (first | exact Nat.zero_le _ | exact Nat.le_of_ble_eq_true rfl | omega)); (conv => whnf))
          | ((with_reducible refine @And.intro (@LT.lt Nat _ _ _) _ ?_ ?_); (· omega); (conv => whnf))
          | ((with_reducible refine @And.intro (∃ _, _ = _) _ ?_ ?_); (· exact ⟨_, rfl⟩); (conv => whnf))
          | ((with_reducible refine @And.intro (_ ∨ _) _ ?_ ?_); (· (first | exact Or.inl rfl | exact Or.inr rfl | exact t_b01 _ | assumption)); (conv => whnf))
          | ((with_reducible refine @And.intro (¬ (_ = _)) _ ?_ ?_); (· first | assumption | (with_reducible assumption)); (conv => whnf))
          | (refine hX _ _ _ _ _ _ ?_; (conv => whnf); fail_if_success show False)
          | (rw [t_si]; (conv => whnf))
          | (refine ⟨_, rfl, ?_⟩; (conv => whnf))
          | (refine ⟨_, _, rfl, ?_⟩; (conv => whnf))
          | (refine ⟨_, _, _, rfl, ?_⟩; (conv => whnf))
          | (refine ⟨_, _, _, _, rfl, ?_⟩; (conv => whnf))
          | (rw [t_lrow hr]; (conv => whnf))
          | (rw [t_l130 (by first | with_reducible assumption | omega | exact vp_lt (by assumption) | (rw [nI_clamp (by omega)]; omega))]; (conv => whnf))
          | (refine And.intro (fun c => ?_) (fun c => ?_) <;> (first | (exact absurd c (by decide +kernel)) | (conv => whnf)))
          | fail)
        · have := ih (k + 1) (by omega) (by omega) J hJ hJl
          clear ih
          simp (disch := omega) only [xl_n, xl_m, nI_dec, nI_sb, xl_0, xl_1, tW_i, t_bn0, t_bn1, Classical.not_not, t_lt, nI_add, nI_1, pk_mul, nI_clamp, t_si, nI_eq, nI_leI, nM_ne, nM_ne, xm_set, xm_lv0, xm_psh, eK, hA] at *
          exact this (by rw [g_wears_s, if_neg c])
        · have := ih (k + 1) (by omega) (by omega) (xm_u2 J row (9 + k) (t_more (nI 0) (J row (9 + k) - J 12 3))) (hJ.tr (t_sc.u hr0).sl) (by rw [xm_u2_ne (Ne.symm hr0)]; exact hJl)
          clear ih
          simp (disch := omega) only [xl_n, xl_m, nI_dec, nI_sb, xl_0, xl_1, tW_i, t_bn0, t_bn1, Classical.not_not, t_lt, nI_add, nI_1, pk_mul, nI_clamp, t_si, nI_eq, nI_leI, nM_ne, nM_ne, xm_set, xm_lv0, xm_psh, eK] at *
          refine this ?_
          rw [hA] at c
          rw [tA_s (by omega), hA, g_wears_s, if_pos c, ← hA, tA_gs (by omega), e3]
  have l3 : ∀ T d, (g_drawn (tK I) (g_next (tA I row)) (I 0 45) (I 0 44)).2 = d → g_deaths (tK I) d (t_h I) (g_next (tA I row)) = T → ∀ k, k ≤ t_p I → ∀ J o, (o = none ∨ ∃ z, o = some (.int z)) → t_sl row I J → J 0 44 = (g_drawn (tK I) (g_next (tA I row)) (I 0 45) (I 0 44)).1 → tA J row = g_fills (tK I) k T → X 148 [some (.ref 0), some (.ref row), some (.int d), some (.int (nI k)), o] [] (tW J) 0 0 := by
    intro T d ed eT
    refine t_for fun k h1 ih J o ho hJ hJl hA => ?_
    have hm' : J 12 1 = nI (t_p I) := by rw [h12 J hJ]; exact hm
    have inner : k < t_p I → ∀ f J hv, hv ≠ nM → t_sl row I J → J 0 44 = (g_drawn (tK I) (g_next (tA I row)) (I 0 45) (I 0 44)).1 → t_nu (gw (tA J row) k) 9 < f → g_fill (tK I) k f (tA J row) = g_fills (tK I) (k + 1) T → X 161 [some (.ref 0), some (.ref row), some (.int d), some (.int (nI k)), some (.int hv)] [] (tW J) 0 0 := by
      intro hk f
      induction f with
      | zero => intro J hv _ _ _ q; omega
      | succ f ihf =>
        intro J hv hne hJ hJl hnu hF
        have ep : t_p J = t_p I := hJ.p hrs
        have eK := hJ.K hrs hok hl
        have hokJ := hJ.ok hrs hok
        have hlJ := hJ.lok hrs hl
        have hkJ : k < t_p J := by omega
        refine hG _ _ _ _ _ _ ?_
        (conv => whnf)
        repeat' (first
          | ((with_reducible refine @And.intro (vp_in _ _) _ ?_ ?_); (· (first | with_reducible assumption | ((with_reducible refine t_vin ?_); decide) | ((with_reducible refine vp_in_nI ?_ ?_) <;> first | omega | decide) | (simp (disch := omega) only [xl_n, xl_m, nI_dec, nI_sb, nI_add, pk_mul]; (with_reducible refine vp_in_nI ?_ ?_) <;> first | omega | decide))); (conv => whnf))
          | (refine And.intro (by first | with_reducible assumption | exact (show tL _ = _ from rfl) | decide) ?_; (conv => whnf))
          | ((with_reducible refine @And.intro (_ = _) _ ?_ ?_); (· rfl); (conv => whnf))
          | ((with_reducible refine @And.intro (@LE.le Nat _ _ _) _ ?_ ?_); (· (first | exact Nat.zero_le _ | exact Nat.le_of_ble_eq_true rfl | omega)); (conv => whnf))
          | ((with_reducible refine @And.intro (@LT.lt Nat _ _ _) _ ?_ ?_); (· omega); (conv => whnf))
          | ((with_reducible refine @And.intro (∃ _, _ = _) _ ?_ ?_); (· exact ⟨_, rfl⟩); (conv => whnf))
          | ((with_reducible refine @And.intro (_ ∨ _) _ ?_ ?_); (· (first | exact Or.inl rfl | exact Or.inr rfl | exact t_b01 _ | assumption)); (conv => whnf))
          | ((with_reducible refine @And.intro (¬ (_ = _)) _ ?_ ?_); (· first | assumption | (with_reducible assumption)); (conv => whnf))
          | (refine hX _ _ _ _ _ _ ?_; (conv => whnf); fail_if_success show False)
          | (rw [t_si]; (conv => whnf))
          | (refine ⟨_, rfl, ?_⟩; (conv => whnf))
          | (refine ⟨_, _, rfl, ?_⟩; (conv => whnf))
          | (refine ⟨_, _, _, rfl, ?_⟩; (conv => whnf))
          | (refine ⟨_, _, _, _, rfl, ?_⟩; (conv => whnf))
          | fail)
        refine And.intro (fun c => ?_) (fun c => ?_) <;> (conv => whnf)
        · repeat' (first
            | ((with_reducible refine @And.intro (vp_in _ _) _ ?_ ?_); (· (first | with_reducible assumption | ((with_reducible refine t_vin ?_); decide) | ((with_reducible refine vp_in_nI ?_ ?_) <;> first | omega | decide) | (simp (disch := omega) only [xl_n, xl_m, nI_dec, nI_sb, nI_add, pk_mul]; (with_reducible refine vp_in_nI ?_ ?_) <;> first | omega | decide))); (conv => whnf))
            | (refine And.intro (by first | with_reducible assumption | exact (show tL _ = _ from rfl) | decide) ?_; (conv => whnf))
            | ((with_reducible refine @And.intro (_ = _) _ ?_ ?_); (· rfl); (conv => whnf))
            | ((with_reducible refine @And.intro (@LE.le Nat _ _ _) _ ?_ ?_); (· (first | exact Nat.zero_le _ | exact Nat.le_of_ble_eq_true rfl | omega)); (conv => whnf))
            | ((with_reducible refine @And.intro (@LT.lt Nat _ _ _) _ ?_ ?_); (· omega); (conv => whnf))
            | ((with_reducible refine @And.intro (∃ _, _ = _) _ ?_ ?_); (· exact ⟨_, rfl⟩); (conv => whnf))
            | ((with_reducible refine @And.intro (_ ∨ _) _ ?_ ?_); (· (first | exact Or.inl rfl | exact Or.inr rfl | exact t_b01 _ | assumption)); (conv => whnf))
            | ((with_reducible refine @And.intro (¬ (_ = _)) _ ?_ ?_); (· first | assumption | (with_reducible assumption)); (conv => whnf))
            | (refine hX _ _ _ _ _ _ ?_; (conv => whnf); fail_if_success show False)
            | (rw [t_si]; (conv => whnf))
            | (refine ⟨_, rfl, ?_⟩; (conv => whnf))
            | (refine ⟨_, _, rfl, ?_⟩; (conv => whnf))
            | (refine ⟨_, _, _, rfl, ?_⟩; (conv => whnf))
            | (refine ⟨_, _, _, _, rfl, ?_⟩; (conv => whnf))
            | (refine And.intro (fun c => ?_) (fun c => ?_) <;> (first | (exact absurd c (by decide +kernel)) | (conv => whnf)))
            | fail)
          have := ih (k + 1) (by omega) (by omega) J (some (.int hv)) (Or.inr ⟨_, rfl⟩) hJ hJl
          clear ih ihf
          simp (disch := omega) only [xl_n, xl_m, nI_dec, nI_sb, xl_0, xl_1, tW_i, t_bn0, t_bn1, Classical.not_not, t_lt, nI_add, nI_1, pk_mul, nI_clamp, t_si, nI_eq, nI_leI, nM_ne, nM_ne, xm_set, xm_lv0, xm_psh, eK] at *
          refine this ?_
          rw [← hF]
          show _ = if _ then _ else _
          rw [if_pos c]
        · repeat' (first
            | ((with_reducible refine @And.intro (vp_in _ _) _ ?_ ?_); (· (first | with_reducible assumption | ((with_reducible refine t_vin ?_); decide) | ((with_reducible refine vp_in_nI ?_ ?_) <;> first | omega | decide) | (simp (disch := omega) only [xl_n, xl_m, nI_dec, nI_sb, nI_add, pk_mul]; (with_reducible refine vp_in_nI ?_ ?_) <;> first | omega | decide))); (conv => whnf))
            | (refine And.intro (by first | with_reducible assumption | exact (show tL _ = _ from rfl) | decide) ?_; (conv => whnf))
            | ((with_reducible refine @And.intro (_ = _) _ ?_ ?_); (· rfl); (conv => whnf))
            | ((with_reducible refine @And.intro (@LE.le Nat _ _ _) _ ?_ ?_); (· (first | exact Nat.zero_le _ | exact Nat.le_of_ble_eq_true rfl | omega)); (conv => whnf))
            | ((with_reducible refine @And.intro (@LT.lt Nat _ _ _) _ ?_ ?_); (· omega); (conv => whnf))
            | ((with_reducible refine @And.intro (∃ _, _ = _) _ ?_ ?_); (· exact ⟨_, rfl⟩); (conv => whnf))
            | ((with_reducible refine @And.intro (_ ∨ _) _ ?_ ?_); (· (first | exact Or.inl rfl | exact Or.inr rfl | exact t_b01 _ | assumption)); (conv => whnf))
            | ((with_reducible refine @And.intro (¬ (_ = _)) _ ?_ ?_); (· first | assumption | (with_reducible assumption)); (conv => whnf))
            | (refine hX _ _ _ _ _ _ ?_; (conv => whnf); fail_if_success show False)
            | (rw [t_si]; (conv => whnf))
            | (refine ⟨_, rfl, ?_⟩; (conv => whnf))
            | (refine ⟨_, _, rfl, ?_⟩; (conv => whnf))
            | (refine ⟨_, _, _, rfl, ?_⟩; (conv => whnf))
            | (refine ⟨_, _, _, _, rfl, ?_⟩; (conv => whnf))
            | (refine And.intro (fun c => ?_) (fun c => ?_) <;> (first | (exact absurd c (by decide +kernel)) | (conv => whnf)))
            | fail)
          · exact absurd (by assumption) hne
          · intro L hL
            (conv => whnf)
            have hJL : t_sl row I L := hJ.tr (hL.up t_s34).sl
            have hLl : L 0 44 = J 0 44 := hL.2 44 (by unfold t_scf; omega)
            have eA : tA L row = tA J row := hL.A hr (t_row34 hr)
            have clk : ¬ g_lack (tK I) (tA J row) k ≤ nI 0 := by
              have c1 : ¬ g_lack (tK J) (tA J row) k ≤ nI 0 := by assumption
              rw [eK] at c1
              exact c1
            rcases hch : g_chosen (tK J) (tA J row) k with _ | h
            · have hx : X 148 [some (.ref 0), some (.ref row), some (.int d), some (.int (nI (k + 1))), some (.int nM)] [] (tW L) 0 0 := by
                refine ih (k + 1) (by omega) (by omega) L (some (.int nM)) (Or.inr ⟨_, rfl⟩) hJL (hLl.trans hJl) ?_
                rw [← hF, eA]
                show _ = if _ then _ else _
                rw [if_neg clk, ← eK, hch]
              clear ih ihf
              repeat' (first
                | ((with_reducible refine @And.intro (vp_in _ _) _ ?_ ?_); (· (first | with_reducible assumption | ((with_reducible refine t_vin ?_); decide) | ((with_reducible refine vp_in_nI ?_ ?_) <;> first | omega | decide) | (simp (disch := omega) only [xl_n, xl_m, nI_dec, nI_sb, nI_add, pk_mul]; (with_reducible refine vp_in_nI ?_ ?_) <;> first | omega | decide))); (conv => whnf))
                | (refine And.intro (by first | with_reducible assumption | exact (show tL _ = _ from rfl) | decide) ?_; (conv => whnf))
                | ((with_reducible refine @And.intro (_ = _) _ ?_ ?_); (· rfl); (conv => whnf))
                | ((with_reducible refine @And.intro (@LE.le Nat _ _ _) _ ?_ ?_); (· (first | exact Nat.zero_le _ | exact Nat.le_of_ble_eq_true rfl | omega)); (conv => whnf))
                | ((with_reducible refine @And.intro (@LT.lt Nat _ _ _) _ ?_ ?_); (· omega); (conv => whnf))
                | ((with_reducible refine @And.intro (∃ _, _ = _) _ ?_ ?_); (· exact ⟨_, rfl⟩); (conv => whnf))
                | ((with_reducible refine @And.intro (_ ∨ _) _ ?_ ?_); (· (first | exact Or.inl rfl | exact Or.inr rfl | exact t_b01 _ | assumption)); (conv => whnf))
                | ((with_reducible refine @And.intro (¬ (_ = _)) _ ?_ ?_); (· first | assumption | (with_reducible assumption)); (conv => whnf))
                | (refine hX _ _ _ _ _ _ ?_; (conv => whnf); fail_if_success show False)
                | (rw [t_si]; (conv => whnf))
                | (refine ⟨_, rfl, ?_⟩; (conv => whnf))
                | (refine ⟨_, _, rfl, ?_⟩; (conv => whnf))
                | (refine ⟨_, _, _, rfl, ?_⟩; (conv => whnf))
                | (refine ⟨_, _, _, _, rfl, ?_⟩; (conv => whnf))
                | (refine And.intro (fun c => ?_) (fun c => ?_) <;> (first | (exact absurd c (by decide +kernel)) | (conv => whnf)))
                | fail)
              · have ep2 : t_p L = t_p I := hJL.p hrs
                have hokL := hJL.ok hrs hok
                have hkL : k < t_p L := by omega
                refine hG _ _ _ _ _ _ ?_
                (conv => whnf)
                repeat' (first
                  | ((with_reducible refine @And.intro (vp_in _ _) _ ?_ ?_); (· (first | with_reducible assumption | ((with_reducible refine t_vin ?_); decide) | ((with_reducible refine vp_in_nI ?_ ?_) <;> first | omega | decide) | (simp (disch := omega) only [xl_n, xl_m, nI_dec, nI_sb, nI_add, pk_mul]; (with_reducible refine vp_in_nI ?_ ?_) <;> first | omega | decide))); (conv => whnf))
                  | (refine And.intro (by first | with_reducible assumption | exact (show tL _ = _ from rfl) | decide) ?_; (conv => whnf))
                  | ((with_reducible refine @And.intro (_ = _) _ ?_ ?_); (· rfl); (conv => whnf))
                  | ((with_reducible refine @And.intro (@LE.le Nat _ _ _) _ ?_ ?_); (· (first | exact Nat.zero_le _ | exact Nat.le_of_ble_eq_true rfl | omega)); (conv => whnf))
                  | ((with_reducible refine @And.intro (@LT.lt Nat _ _ _) _ ?_ ?_); (· omega); (conv => whnf))
                  | ((with_reducible refine @And.intro (∃ _, _ = _) _ ?_ ?_); (· exact ⟨_, rfl⟩); (conv => whnf))
                  | ((with_reducible refine @And.intro (_ ∨ _) _ ?_ ?_); (· (first | exact Or.inl rfl | exact Or.inr rfl | exact t_b01 _ | assumption)); (conv => whnf))
                  | ((with_reducible refine @And.intro (¬ (_ = _)) _ ?_ ?_); (· first | assumption | (with_reducible assumption)); (conv => whnf))
                  | (refine hX _ _ _ _ _ _ ?_; (conv => whnf); fail_if_success show False)
                  | (rw [t_si]; (conv => whnf))
                  | (refine ⟨_, rfl, ?_⟩; (conv => whnf))
                  | (refine ⟨_, _, rfl, ?_⟩; (conv => whnf))
                  | (refine ⟨_, _, _, rfl, ?_⟩; (conv => whnf))
                  | (refine ⟨_, _, _, _, rfl, ?_⟩; (conv => whnf))
                  | (refine And.intro (fun c => ?_) (fun c => ?_) <;> (first | (exact absurd c (by decide +kernel)) | (conv => whnf)))
                  | fail)
                · simp (disch := omega) only [xl_n, xl_m, nI_dec, nI_sb, xl_0, xl_1, tW_i, t_bn0, t_bn1, Classical.not_not, t_lt, nI_add, nI_1, pk_mul, nI_clamp, t_si, nI_eq, nI_leI, nM_ne, nM_ne, xm_set, xm_lv0, xm_psh] at *
                  exact hx
                · simp (disch := omega) only [xl_n, xl_m, nI_dec, nI_sb, xl_0, xl_1, tW_i, t_bn0, t_bn1, Classical.not_not, t_lt, nI_add, nI_1, pk_mul, nI_clamp, t_si, nI_eq, nI_leI, nM_ne, nM_ne, xm_set, xm_lv0, xm_psh] at *
                  exact hx
            · have hch2 : g_best (tK J) (tA J row) k (t_h J) = some h := hch
              have hmay := g_best_may hch2
              have hlt := g_best_lt hch2
              have eh : t_h J = t_h I := hJ.h hrs
              have hh9 : h < 9 := by omega
              have hnot : t_has (gw (tA J row) k) h = false := by
                unfold g_may at hmay
                simp at hmay
                exact hmay.1.1.2
              rw [show t_o (some h) = nI h from rfl]
              (conv => whnf)
              repeat' (first
                | ((with_reducible refine @And.intro (vp_in _ _) _ ?_ ?_); (· (first | with_reducible assumption | ((with_reducible refine t_vin ?_); decide) | ((with_reducible refine vp_in_nI ?_ ?_) <;> first | omega | decide) | (simp (disch := omega) only [xl_n, xl_m, nI_dec, nI_sb, nI_add, pk_mul]; (with_reducible refine vp_in_nI ?_ ?_) <;> first | omega | decide))); (conv => whnf))
                | (refine And.intro (by first | with_reducible assumption | exact (show tL _ = _ from rfl) | decide) ?_; (conv => whnf))
                | ((with_reducible refine @And.intro (_ = _) _ ?_ ?_); (· rfl); (conv => whnf))
                | ((with_reducible refine @And.intro (@LE.le Nat _ _ _) _ ?_ ?_); (· (first | exact Nat.zero_le _ | exact Nat.le_of_ble_eq_true rfl | omega)); (conv => whnf))
                | ((with_reducible refine @And.intro (@LT.lt Nat _ _ _) _ ?_ ?_); (· omega); (conv => whnf))
                | ((with_reducible refine @And.intro (∃ _, _ = _) _ ?_ ?_); (· exact ⟨_, rfl⟩); (conv => whnf))
                | ((with_reducible refine @And.intro (_ ∨ _) _ ?_ ?_); (· (first | exact Or.inl rfl | exact Or.inr rfl | exact t_b01 _ | assumption)); (conv => whnf))
                | ((with_reducible refine @And.intro (¬ (_ = _)) _ ?_ ?_); (· first | assumption | (with_reducible assumption)); (conv => whnf))
                | (refine hX _ _ _ _ _ _ ?_; (conv => whnf); fail_if_success show False)
                | (rw [t_si]; (conv => whnf))
                | (refine ⟨_, rfl, ?_⟩; (conv => whnf))
                | (refine ⟨_, _, rfl, ?_⟩; (conv => whnf))
                | (refine ⟨_, _, _, rfl, ?_⟩; (conv => whnf))
                | (refine ⟨_, _, _, _, rfl, ?_⟩; (conv => whnf))
                | (refine And.intro (fun c => ?_) (fun c => ?_) <;> (first | (exact absurd c (by decide +kernel)) | (conv => whnf)))
                | fail)
              · intro M hM hMA
                (conv => whnf)
                rw [eA] at hMA
                have hM0 : M 0 = L 0 := hM 0 (Ne.symm hr0)
                have fin : ∀ v, v = (if M row (97 + h) = nM then nI k else M row (97 + h)) → X 161 [some (.ref 0), some (.ref row), some (.int d), some (.int (nI k)), some (.int (nI h))] [] (tW (xm_u2 M row (97 + h) v)) 0 0 := by
                  intro v ev
                  have eT : tA (xm_u2 M row (97 + h) v) row = g_take (tA J row) k h := by
                    rw [tA_c hh9, hMA, g_take, ← hMA, tA_gc hh9, ev]
                  refine ihf _ _ (nM_ne (by omega)) (hJL.tr ((hM.sc hr0).sl.tr (t_sc.u hr0).sl)) ?_ ?_ ?_
                  · rw [xm_u2_ne (Ne.symm hr0), hM0, hLl]
                    exact hJl
                  · rw [eT]
                    show t_nu (gw (g_take (tA J row) k h) k) 9 < f
                    have : gw (g_take (tA J row) k h) k = gw (tA J row) k ||| t_bit h := by
                      show g_upd _ k _ k = _
                      rw [g_upd, if_pos rfl]
                    rw [this]
                    have := t_nu_l hnot 9 (by omega) hh9
                    omega
                  · rw [eT, ← hF]
                    show _ = if _ then _ else _
                    rw [if_neg clk, ← eK, hch]
                clear ih ihf
                repeat' (first
                  | ((with_reducible refine @And.intro (vp_in _ _) _ ?_ ?_); (· (first | with_reducible assumption | ((with_reducible refine t_vin ?_); decide) | ((with_reducible refine vp_in_nI ?_ ?_) <;> first | omega | decide) | (simp (disch := omega) only [xl_n, xl_m, nI_dec, nI_sb, nI_add, pk_mul]; (with_reducible refine vp_in_nI ?_ ?_) <;> first | omega | decide))); (conv => whnf))
                  | (refine And.intro (by first | with_reducible assumption | exact (show tL _ = _ from rfl) | decide) ?_; (conv => whnf))
                  | ((with_reducible refine @And.intro (_ = _) _ ?_ ?_); (· rfl); (conv => whnf))
                  | ((with_reducible refine @And.intro (@LE.le Nat _ _ _) _ ?_ ?_); (· (first | exact Nat.zero_le _ | exact Nat.le_of_ble_eq_true rfl | omega)); (conv => whnf))
                  | ((with_reducible refine @And.intro (@LT.lt Nat _ _ _) _ ?_ ?_); (· omega); (conv => whnf))
                  | ((with_reducible refine @And.intro (∃ _, _ = _) _ ?_ ?_); (· exact ⟨_, rfl⟩); (conv => whnf))
                  | ((with_reducible refine @And.intro (_ ∨ _) _ ?_ ?_); (· (first | exact Or.inl rfl | exact Or.inr rfl | exact t_b01 _ | assumption)); (conv => whnf))
                  | ((with_reducible refine @And.intro (¬ (_ = _)) _ ?_ ?_); (· first | assumption | (with_reducible assumption)); (conv => whnf))
                  | (refine hX _ _ _ _ _ _ ?_; (conv => whnf); fail_if_success show False)
                  | (rw [t_si]; (conv => whnf))
                  | (refine ⟨_, rfl, ?_⟩; (conv => whnf))
                  | (refine ⟨_, _, rfl, ?_⟩; (conv => whnf))
                  | (refine ⟨_, _, _, rfl, ?_⟩; (conv => whnf))
                  | (refine ⟨_, _, _, _, rfl, ?_⟩; (conv => whnf))
                  | (rw [t_lrow hr]; (conv => whnf))
                  | (refine And.intro (fun c => ?_) (fun c => ?_) <;> (first | (exact absurd c (by decide +kernel)) | (conv => whnf)))
                  | fail)
                · simp (disch := omega) only [xl_n, xl_m, nI_dec, nI_sb, xl_0, xl_1, tW_i, t_bn0, t_bn1, Classical.not_not, t_lt, nI_add, nI_1, pk_mul, nI_clamp, t_si, nI_eq, nI_leI, nM_ne, nM_ne, xm_set, xm_lv0, xm_psh] at *
                  exact fin _ (by rw [if_neg (by assumption)])
                · simp (disch := omega) only [xl_n, xl_m, nI_dec, nI_sb, xl_0, xl_1, tW_i, t_bn0, t_bn1, Classical.not_not, t_lt, nI_add, nI_1, pk_mul, nI_clamp, t_si, nI_eq, nI_leI, nM_ne, nM_ne, xm_set, xm_lv0, xm_psh] at *
                  exact fin _ (by rw [if_pos (by assumption)])
              · exact absurd (Classical.not_not.mp (by assumption)) (nM_ne (n := h) (by omega))
    rcases ho with rfl | ⟨z, rfl⟩
    all_goals
      refine hG _ _ _ _ _ _ ?_
      (conv => whnf)
      repeat' (first
        | ((with_reducible refine @And.intro (vp_in _ _) _ ?_ ?_); (· (first | with_reducible assumption | ((with_reducible refine t_vin ?_); decide) | ((with_reducible refine vp_in_nI ?_ ?_) <;> first | omega | decide) | (simp (disch := omega) only [xl_n, xl_m, nI_dec, nI_sb, nI_add, pk_mul]; (with_reducible refine vp_in_nI ?_ ?_) <;> first | omega | decide))); (conv => whnf))
        | (refine And.intro (by first | with_reducible assumption | exact (show tL _ = _ from rfl) | decide) ?_; (conv => whnf))
        | ((with_reducible refine @And.intro (_ = _) _ ?_ ?_); (· rfl); (conv => whnf))
        | ((with_reducible refine @And.intro (@LE.le Nat _ _ _) _ ?_ ?_); (· (first | exact Nat.zero_le _ | exact Nat.le_of_ble_eq_true rfl | omega)); (conv => whnf))
        | ((with_reducible refine @And.intro (@LT.lt Nat _ _ _) _ ?_ ?_); (· omega); (conv => whnf))
        | ((with_reducible refine @And.intro (∃ _, _ = _) _ ?_ ?_); (· exact ⟨_, rfl⟩); (conv => whnf))
        | ((with_reducible refine @And.intro (_ ∨ _) _ ?_ ?_); (· (first | exact Or.inl rfl | exact Or.inr rfl | exact t_b01 _ | assumption)); (conv => whnf))
        | ((with_reducible refine @And.intro (¬ (_ = _)) _ ?_ ?_); (· first | assumption | (with_reducible assumption)); (conv => whnf))
        | (refine hX _ _ _ _ _ _ ?_; (conv => whnf); fail_if_success show False)
        | (rw [t_si]; (conv => whnf))
        | (refine ⟨_, rfl, ?_⟩; (conv => whnf))
        | (refine ⟨_, _, rfl, ?_⟩; (conv => whnf))
        | (refine ⟨_, _, _, rfl, ?_⟩; (conv => whnf))
        | (refine ⟨_, _, _, _, rfl, ?_⟩; (conv => whnf))
        | fail)
      refine And.intro (fun c => ?_) (fun c => ?_) <;> (conv => whnf)
      · repeat' (first
          | ((with_reducible refine @And.intro (vp_in _ _) _ ?_ ?_); (· (first | with_reducible assumption | ((with_reducible refine t_vin ?_); decide) | ((with_reducible refine vp_in_nI ?_ ?_) <;> first | omega | decide) | (simp (disch := omega) only [xl_n, xl_m, nI_dec, nI_sb, nI_add, pk_mul]; (with_reducible refine vp_in_nI ?_ ?_) <;> first | omega | decide))); (conv => whnf))
          | (refine And.intro (by first | with_reducible assumption | exact (show tL _ = _ from rfl) | decide) ?_; (conv => whnf))
          | ((with_reducible refine @And.intro (_ = _) _ ?_ ?_); (· rfl); (conv => whnf))
          | ((with_reducible refine @And.intro (@LE.le Nat _ _ _) _ ?_ ?_); (· (first | exact Nat.zero_le _ | exact Nat.le_of_ble_eq_true rfl | omega)); (conv => whnf))
          | ((with_reducible refine @And.intro (@LT.lt Nat _ _ _) _ ?_ ?_); (· omega); (conv => whnf))
          | ((with_reducible refine @And.intro (∃ _, _ = _) _ ?_ ?_); (· exact ⟨_, rfl⟩); (conv => whnf))
          | ((with_reducible refine @And.intro (_ ∨ _) _ ?_ ?_); (· (first | exact Or.inl rfl | exact Or.inr rfl | exact t_b01 _ | assumption)); (conv => whnf))
          | ((with_reducible refine @And.intro (¬ (_ = _)) _ ?_ ?_); (· first | assumption | (with_reducible assumption)); (conv => whnf))
          | (refine hX _ _ _ _ _ _ ?_; (conv => whnf); fail_if_success show False)
          | (rw [t_si]; (conv => whnf))
          | (refine ⟨_, rfl, ?_⟩; (conv => whnf))
          | (refine ⟨_, _, rfl, ?_⟩; (conv => whnf))
          | (refine ⟨_, _, _, rfl, ?_⟩; (conv => whnf))
          | (refine ⟨_, _, _, _, rfl, ?_⟩; (conv => whnf))
          | (refine And.intro (fun c => ?_) (fun c => ?_) <;> (first | (exact absurd c (by decide +kernel)) | (conv => whnf)))
          | fail)
        have e : k = t_p I := Nat.le_antisymm h1 (t_kge hm' c (by omega) (by omega))
        subst e
        exact l4 (g_fills (tK I) (t_p I) T) _ d _ (by first | exact Or.inl rfl | exact Or.inr ⟨_, rfl⟩) rfl (by
          show g_wears _ (t_p I) (g_fills _ (t_p I) (g_deaths _ _ (t_h I) _)) = _
          rw [ed, eT]) 0 (Nat.zero_le _) J hJ hJl hA
      · repeat' (first
          | ((with_reducible refine @And.intro (vp_in _ _) _ ?_ ?_); (· (first | with_reducible assumption | ((with_reducible refine t_vin ?_); decide) | ((with_reducible refine vp_in_nI ?_ ?_) <;> first | omega | decide) | (simp (disch := omega) only [xl_n, xl_m, nI_dec, nI_sb, nI_add, pk_mul]; (with_reducible refine vp_in_nI ?_ ?_) <;> first | omega | decide))); (conv => whnf))
          | (refine And.intro (by first | with_reducible assumption | exact (show tL _ = _ from rfl) | decide) ?_; (conv => whnf))
          | ((with_reducible refine @And.intro (_ = _) _ ?_ ?_); (· rfl); (conv => whnf))
          | ((with_reducible refine @And.intro (@LE.le Nat _ _ _) _ ?_ ?_); (· (first | exact Nat.zero_le _ | exact Nat.le_of_ble_eq_true rfl | omega)); (conv => whnf))
          | ((with_reducible refine @And.intro (@LT.lt Nat _ _ _) _ ?_ ?_); (· omega); (conv => whnf))
          | ((with_reducible refine @And.intro (∃ _, _ = _) _ ?_ ?_); (· exact ⟨_, rfl⟩); (conv => whnf))
          | ((with_reducible refine @And.intro (_ ∨ _) _ ?_ ?_); (· (first | exact Or.inl rfl | exact Or.inr rfl | exact t_b01 _ | assumption)); (conv => whnf))
          | ((with_reducible refine @And.intro (¬ (_ = _)) _ ?_ ?_); (· first | assumption | (with_reducible assumption)); (conv => whnf))
          | (refine hX _ _ _ _ _ _ ?_; (conv => whnf); fail_if_success show False)
          | (rw [t_si]; (conv => whnf))
          | (refine ⟨_, rfl, ?_⟩; (conv => whnf))
          | (refine ⟨_, _, rfl, ?_⟩; (conv => whnf))
          | (refine ⟨_, _, _, rfl, ?_⟩; (conv => whnf))
          | (refine ⟨_, _, _, _, rfl, ?_⟩; (conv => whnf))
          | (refine And.intro (fun c => ?_) (fun c => ?_) <;> (first | (exact absurd c (by decide +kernel)) | (conv => whnf)))
          | fail)
        have hk : k < t_p I := t_klt hm' c (by omega)
        exact inner hk 10 J (nI 0) (nM_ne (n := 0) (by decide)) hJ hJl (Nat.lt_succ_of_le (t_nu_le _ 9)) (by rw [hA, g_fills_s])
  have l2 : ∀ d, (g_drawn (tK I) (g_next (tA I row)) (I 0 45) (I 0 44)).2 = d → ∀ k, k ≤ t_h I → ∀ J, t_sl row I J → J 0 44 = (g_drawn (tK I) (g_next (tA I row)) (I 0 45) (I 0 44)).1 → tA J row = g_deaths (tK I) d k (g_next (tA I row)) → X 92 [some (.ref 0), some (.ref row), some (.int d), some (.int (nI k)), none] [] (tW J) 0 0 := by
    intro d ed
    refine t_for fun k h1 ih J hJ hJl hA => ?_
    have hn' : J 12 0 = nI (t_h I) := by rw [h12 J hJ]; exact hn
    have eh : t_h J = t_h I := hJ.h hrs
    have eK := hJ.K hrs hok hl
    have hokJ := hJ.ok hrs hok
    have hlJ := hJ.lok hrs hl
    refine hG _ _ _ _ _ _ ?_
    (conv => whnf)
    repeat' (first
      | ((with_reducible refine @And.intro (vp_in _ _) _ ?_ ?_); (· (first | with_reducible assumption | ((with_reducible refine t_vin ?_); decide) | ((with_reducible refine vp_in_nI ?_ ?_) <;> first | omega | decide) | (simp (disch := omega) only [xl_n, xl_m, nI_dec, nI_sb, nI_add, pk_mul]; (with_reducible refine vp_in_nI ?_ ?_) <;> first | omega | decide))); (conv => whnf))
      | (refine And.intro (by first | with_reducible assumption | exact (show tL _ = _ from rfl) | decide) ?_; (conv => whnf))
      | ((with_reducible refine @And.intro (_ = _) _ ?_ ?_); (· rfl); (conv => whnf))
      | ((with_reducible refine @And.intro (@LE.le Nat _ _ _) _ ?_ ?_); (· (first | exact Nat.zero_le _ | exact Nat.le_of_ble_eq_true rfl | omega)); (conv => whnf))
      | ((with_reducible refine @And.intro (@LT.lt Nat _ _ _) _ ?_ ?_); (· omega); (conv => whnf))
      | ((with_reducible refine @And.intro (∃ _, _ = _) _ ?_ ?_); (· exact ⟨_, rfl⟩); (conv => whnf))
      | ((with_reducible refine @And.intro (_ ∨ _) _ ?_ ?_); (· (first | exact Or.inl rfl | exact Or.inr rfl | exact t_b01 _ | assumption)); (conv => whnf))
      | ((with_reducible refine @And.intro (¬ (_ = _)) _ ?_ ?_); (· first | assumption | (with_reducible assumption)); (conv => whnf))
      | (refine hX _ _ _ _ _ _ ?_; (conv => whnf); fail_if_success show False)
      | (rw [t_si]; (conv => whnf))
      | (refine ⟨_, rfl, ?_⟩; (conv => whnf))
      | (refine ⟨_, _, rfl, ?_⟩; (conv => whnf))
      | (refine ⟨_, _, _, rfl, ?_⟩; (conv => whnf))
      | (refine ⟨_, _, _, _, rfl, ?_⟩; (conv => whnf))
      | fail)
    refine And.intro (fun c => ?_) (fun c => ?_) <;> (conv => whnf)
    · repeat' (first
        | ((with_reducible refine @And.intro (vp_in _ _) _ ?_ ?_); (· (first | with_reducible assumption | ((with_reducible refine t_vin ?_); decide) | ((with_reducible refine vp_in_nI ?_ ?_) <;> first | omega | decide) | (simp (disch := omega) only [xl_n, xl_m, nI_dec, nI_sb, nI_add, pk_mul]; (with_reducible refine vp_in_nI ?_ ?_) <;> first | omega | decide))); (conv => whnf))
        | (refine And.intro (by first | with_reducible assumption | exact (show tL _ = _ from rfl) | decide) ?_; (conv => whnf))
        | ((with_reducible refine @And.intro (_ = _) _ ?_ ?_); (· rfl); (conv => whnf))
        | ((with_reducible refine @And.intro (@LE.le Nat _ _ _) _ ?_ ?_); (· (first | exact Nat.zero_le _ | exact Nat.le_of_ble_eq_true rfl | omega)); (conv => whnf))
        | ((with_reducible refine @And.intro (@LT.lt Nat _ _ _) _ ?_ ?_); (· omega); (conv => whnf))
        | ((with_reducible refine @And.intro (∃ _, _ = _) _ ?_ ?_); (· exact ⟨_, rfl⟩); (conv => whnf))
        | ((with_reducible refine @And.intro (_ ∨ _) _ ?_ ?_); (· (first | exact Or.inl rfl | exact Or.inr rfl | exact t_b01 _ | assumption)); (conv => whnf))
        | ((with_reducible refine @And.intro (¬ (_ = _)) _ ?_ ?_); (· first | assumption | (with_reducible assumption)); (conv => whnf))
        | (refine hX _ _ _ _ _ _ ?_; (conv => whnf); fail_if_success show False)
        | (rw [t_si]; (conv => whnf))
        | (refine ⟨_, rfl, ?_⟩; (conv => whnf))
        | (refine ⟨_, _, rfl, ?_⟩; (conv => whnf))
        | (refine ⟨_, _, _, rfl, ?_⟩; (conv => whnf))
        | (refine ⟨_, _, _, _, rfl, ?_⟩; (conv => whnf))
        | (refine And.intro (fun c => ?_) (fun c => ?_) <;> (first | (exact absurd c (by decide +kernel)) | (conv => whnf)))
        | fail)
      exact l3 _ d ed rfl 0 (Nat.zero_le _) J none (Or.inl rfl) hJ hJl (by
        have : k = t_h I := Nat.le_antisymm h1 (t_kge hn' c (by omega) (by omega))
        subst this
        exact hA)
    · have hk : k < t_h I := t_klt hn' c (by omega)
      have hkJ : k < t_h J := by omega
      have hk9 : k < 9 := by omega
      have hd0 : gdies (tK I) k = J (110 + k) 2 := by
        rw [tK_dies hk, hJ.fx hrs (110 + k) (by unfold t_fx; omega)]
      have stay : (g_al (tK I) (tA J row) k && (decide (gdies (tK I) k = gy (tA J row)) || t_has d k)) = false → X 92 [some (.ref 0), some (.ref row), some (.int d), some (.int (nI (k + 1))), none] [] (tW J) 0 0 := fun e => by
        refine ih (k + 1) (by omega) (by omega) J hJ hJl ?_
        rw [hA] at e
        rw [g_deaths_s, e, hA]
        rfl
      have dies : ∀ L, (g_al (tK I) (tA J row) k && (decide (gdies (tK I) k = gy (tA J row)) || t_has d k)) = true → t_off row J L → tA L row = g_die (tK J) (tA J row) k → X 92 [some (.ref 0), some (.ref row), some (.int d), some (.int (nI (k + 1))), none] [] (tW L) 0 0 := fun L e hL hLA => by
        refine ih (k + 1) (by omega) (by omega) L (hJ.tr (hL.sc hr0).sl) (by rw [hL 0 (Ne.symm hr0)]; exact hJl) ?_
        rw [hA] at e
        rw [g_deaths_s, e, hLA, eK, hA]
        rfl
      have egy : gy (g_deaths (tK I) d k (g_next (tA I row))) = J row 106 := by rw [← hA]; rfl
      clear ih
      repeat' (first
        | ((with_reducible refine @And.intro (vp_in _ _) _ ?_ ?_); (· (first | with_reducible assumption | ((with_reducible refine t_vin ?_); decide) | ((with_reducible refine vp_in_nI ?_ ?_) <;> first | omega | decide) | (simp (disch := omega) only [xl_n, xl_m, nI_dec, nI_sb, nI_add, pk_mul]; (with_reducible refine vp_in_nI ?_ ?_) <;> first | omega | decide))); (conv => whnf))
        | (refine And.intro (by first | with_reducible assumption | exact (show tL _ = _ from rfl) | decide) ?_; (conv => whnf))
        | ((with_reducible refine @And.intro (_ = _) _ ?_ ?_); (· rfl); (conv => whnf))
        | ((with_reducible refine @And.intro (@LE.le Nat _ _ _) _ ?_ ?_); (· (first | exact Nat.zero_le _ | exact Nat.le_of_ble_eq_true rfl | omega)); (conv => whnf))
        | ((with_reducible refine @And.intro (@LT.lt Nat _ _ _) _ ?_ ?_); (· omega); (conv => whnf))
        | ((with_reducible refine @And.intro (∃ _, _ = _) _ ?_ ?_); (· exact ⟨_, rfl⟩); (conv => whnf))
        | ((with_reducible refine @And.intro (_ ∨ _) _ ?_ ?_); (· (first | exact Or.inl rfl | exact Or.inr rfl | exact t_b01 _ | assumption)); (conv => whnf))
        | ((with_reducible refine @And.intro (¬ (_ = _)) _ ?_ ?_); (· first | assumption | (with_reducible assumption)); (conv => whnf))
        | (refine hX _ _ _ _ _ _ ?_; (conv => whnf); fail_if_success show False)
        | (rw [t_si]; (conv => whnf))
        | (refine ⟨_, rfl, ?_⟩; (conv => whnf))
        | (refine ⟨_, _, rfl, ?_⟩; (conv => whnf))
        | (refine ⟨_, _, _, rfl, ?_⟩; (conv => whnf))
        | (refine ⟨_, _, _, _, rfl, ?_⟩; (conv => whnf))
        | (rw [t_lrow hr]; (conv => whnf))
        | (rw [t_l110 (by first | with_reducible assumption | omega | exact vp_lt (by assumption) | (rw [nI_clamp (by omega)]; omega))]; (conv => whnf))
        | (refine And.intro (fun c => ?_) (fun c => ?_) <;> (first | (exact absurd c (by decide +kernel)) | (conv => whnf)))
        | fail)
      · clear l3 l4 hQ hX hG dies
        simp (disch := omega) only [xl_n, xl_m, nI_dec, nI_sb, xl_0, xl_1, tW_i, t_bn0, t_bn1, Classical.not_not, t_lt, nI_add, nI_1, pk_mul, nI_clamp, t_si, nI_eq, nI_leI, nM_ne, nM_ne, xm_set, xm_lv0, xm_psh, eK] at *
        exact stay (by simp [c])
      · intro L hL hLA
        (conv => whnf)
        repeat' (first
          | ((with_reducible refine @And.intro (vp_in _ _) _ ?_ ?_); (· (first | with_reducible assumption | ((with_reducible refine t_vin ?_); decide) | ((with_reducible refine vp_in_nI ?_ ?_) <;> first | omega | decide) | (simp (disch := omega) only [xl_n, xl_m, nI_dec, nI_sb, nI_add, pk_mul]; (with_reducible refine vp_in_nI ?_ ?_) <;> first | omega | decide))); (conv => whnf))
          | (refine And.intro (by first | with_reducible assumption | exact (show tL _ = _ from rfl) | decide) ?_; (conv => whnf))
          | ((with_reducible refine @And.intro (_ = _) _ ?_ ?_); (· rfl); (conv => whnf))
          | ((with_reducible refine @And.intro (@LE.le Nat _ _ _) _ ?_ ?_); (· (first | exact Nat.zero_le _ | exact Nat.le_of_ble_eq_true rfl | omega)); (conv => whnf))
          | ((with_reducible refine @And.intro (@LT.lt Nat _ _ _) _ ?_ ?_); (· omega); (conv => whnf))
          | ((with_reducible refine @And.intro (∃ _, _ = _) _ ?_ ?_); (· exact ⟨_, rfl⟩); (conv => whnf))
          | ((with_reducible refine @And.intro (_ ∨ _) _ ?_ ?_); (· (first | exact Or.inl rfl | exact Or.inr rfl | exact t_b01 _ | assumption)); (conv => whnf))
          | ((with_reducible refine @And.intro (¬ (_ = _)) _ ?_ ?_); (· first | assumption | (with_reducible assumption)); (conv => whnf))
          | (refine hX _ _ _ _ _ _ ?_; (conv => whnf); fail_if_success show False)
          | (rw [t_si]; (conv => whnf))
          | (refine ⟨_, rfl, ?_⟩; (conv => whnf))
          | (refine ⟨_, _, rfl, ?_⟩; (conv => whnf))
          | (refine ⟨_, _, _, rfl, ?_⟩; (conv => whnf))
          | (refine ⟨_, _, _, _, rfl, ?_⟩; (conv => whnf))
          | (refine And.intro (fun c => ?_) (fun c => ?_) <;> (first | (exact absurd c (by decide +kernel)) | (conv => whnf)))
          | fail)
        clear l3 l4 hQ hX hG stay
        simp (disch := omega) only [xl_n, xl_m, nI_dec, nI_sb, xl_0, xl_1, tW_i, t_bn0, t_bn1, Classical.not_not, t_lt, nI_add, nI_1, pk_mul, nI_clamp, t_si, nI_eq, nI_leI, nM_ne, nM_ne, xm_set, xm_lv0, xm_psh, eK] at *
        exact dies L (by simp_all [tA_gy]) hL hLA
      · clear l3 l4 hQ hX hG dies
        simp (disch := omega) only [xl_n, xl_m, nI_dec, nI_sb, xl_0, xl_1, tW_i, t_bn0, t_bn1, Classical.not_not, t_lt, nI_add, nI_1, pk_mul, nI_clamp, t_si, nI_eq, nI_leI, nM_ne, nM_ne, xm_set, xm_lv0, xm_psh, eK] at *
        exact stay (by simp_all [tA_gy])
      · intro L hL hLA
        (conv => whnf)
        repeat' (first
          | ((with_reducible refine @And.intro (vp_in _ _) _ ?_ ?_); (· (first | with_reducible assumption | ((with_reducible refine t_vin ?_); decide) | ((with_reducible refine vp_in_nI ?_ ?_) <;> first | omega | decide) | (simp (disch := omega) only [xl_n, xl_m, nI_dec, nI_sb, nI_add, pk_mul]; (with_reducible refine vp_in_nI ?_ ?_) <;> first | omega | decide))); (conv => whnf))
          | (refine And.intro (by first | with_reducible assumption | exact (show tL _ = _ from rfl) | decide) ?_; (conv => whnf))
          | ((with_reducible refine @And.intro (_ = _) _ ?_ ?_); (· rfl); (conv => whnf))
          | ((with_reducible refine @And.intro (@LE.le Nat _ _ _) _ ?_ ?_); (· (first | exact Nat.zero_le _ | exact Nat.le_of_ble_eq_true rfl | omega)); (conv => whnf))
          | ((with_reducible refine @And.intro (@LT.lt Nat _ _ _) _ ?_ ?_); (· omega); (conv => whnf))
          | ((with_reducible refine @And.intro (∃ _, _ = _) _ ?_ ?_); (· exact ⟨_, rfl⟩); (conv => whnf))
          | ((with_reducible refine @And.intro (_ ∨ _) _ ?_ ?_); (· (first | exact Or.inl rfl | exact Or.inr rfl | exact t_b01 _ | assumption)); (conv => whnf))
          | ((with_reducible refine @And.intro (¬ (_ = _)) _ ?_ ?_); (· first | assumption | (with_reducible assumption)); (conv => whnf))
          | (refine hX _ _ _ _ _ _ ?_; (conv => whnf); fail_if_success show False)
          | (rw [t_si]; (conv => whnf))
          | (refine ⟨_, rfl, ?_⟩; (conv => whnf))
          | (refine ⟨_, _, rfl, ?_⟩; (conv => whnf))
          | (refine ⟨_, _, _, rfl, ?_⟩; (conv => whnf))
          | (refine ⟨_, _, _, _, rfl, ?_⟩; (conv => whnf))
          | (refine And.intro (fun c => ?_) (fun c => ?_) <;> (first | (exact absurd c (by decide +kernel)) | (conv => whnf)))
          | fail)
        clear l3 l4 hQ hX hG stay
        simp (disch := omega) only [xl_n, xl_m, nI_dec, nI_sb, xl_0, xl_1, tW_i, t_bn0, t_bn1, Classical.not_not, t_lt, nI_add, nI_1, pk_mul, nI_clamp, t_si, nI_eq, nI_leI, nM_ne, nM_ne, xm_set, xm_lv0, xm_psh, eK] at *
        exact dies L (by simp_all [tA_gy]) hL hLA
  have l1 : ∀ k, k ≤ t_h I → ∀ J d, t_sl row I J → tA J row = g_next (tA I row) → (k ≠ 0 → ¬ I 0 45 ≤ nI 0) → g_lots (tK I) (g_next (tA I row)) (I 0 45) k (I 0 44) = (J 0 44, d) → X 12 [some (.ref 0), some (.ref row), some (.int d), some (.int (nI k)), none] [] (tW J) 0 0 := by
    refine t_for fun k h1 ih J d hJ hA hb hL => ?_
    have hn' : J 12 0 = nI (t_h I) := by rw [h12 J hJ]; exact hn
    have eh : t_h J = t_h I := hJ.h hrs
    have eK := hJ.K hrs hok hl
    have hokJ := hJ.ok hrs hok
    have e45 : J 0 45 = I 0 45 := hJ.2 45 (by unfold t_scf; omega) (by decide)
    have hD : (I 0 45 ≤ nI 0 ∨ k = t_h I) → g_drawn (tK I) (g_next (tA I row)) (I 0 45) (I 0 44) = (J 0 44, d) := fun q => by
      unfold g_drawn
      by_cases q2 : I 0 45 ≤ nI 0
      · have : k = 0 := Classical.byContradiction fun h => hb h q2
        subst this
        rw [if_pos q2]
        exact hL
      · rw [if_neg q2]
        rcases q with q | q
        · exact absurd q q2
        · subst q
          exact hL
    have out : (I 0 45 ≤ nI 0 ∨ k = t_h I) → X 92 [some (.ref 0), some (.ref row), some (.int d), some (.int (nI 0)), none] [] (tW J) 0 0 := fun q =>
      l2 d (by rw [hD q]) 0 (Nat.zero_le _) J hJ (by rw [hD q]) hA
    refine hG _ _ _ _ _ _ ?_
    (conv => whnf)
    repeat' (first
      | ((with_reducible refine @And.intro (vp_in _ _) _ ?_ ?_); (· (first | with_reducible assumption | ((with_reducible refine t_vin ?_); decide) | ((with_reducible refine vp_in_nI ?_ ?_) <;> first | omega | decide) | (simp (disch := omega) only [xl_n, xl_m, nI_dec, nI_sb, nI_add, pk_mul]; (with_reducible refine vp_in_nI ?_ ?_) <;> first | omega | decide))); (conv => whnf))
      | (refine And.intro (by first | with_reducible assumption | exact (show tL _ = _ from rfl) | decide) ?_; (conv => whnf))
      | ((with_reducible refine @And.intro (_ = _) _ ?_ ?_); (· rfl); (conv => whnf))
      | ((with_reducible refine @And.intro (@LE.le Nat _ _ _) _ ?_ ?_); (· (first | exact Nat.zero_le _ | exact Nat.le_of_ble_eq_true rfl | omega)); (conv => whnf))
      | ((with_reducible refine @And.intro (@LT.lt Nat _ _ _) _ ?_ ?_); (· omega); (conv => whnf))
      | ((with_reducible refine @And.intro (∃ _, _ = _) _ ?_ ?_); (· exact ⟨_, rfl⟩); (conv => whnf))
      | ((with_reducible refine @And.intro (_ ∨ _) _ ?_ ?_); (· (first | exact Or.inl rfl | exact Or.inr rfl | exact t_b01 _ | assumption)); (conv => whnf))
      | ((with_reducible refine @And.intro (¬ (_ = _)) _ ?_ ?_); (· first | assumption | (with_reducible assumption)); (conv => whnf))
      | (refine hX _ _ _ _ _ _ ?_; (conv => whnf); fail_if_success show False)
      | (rw [t_si]; (conv => whnf))
      | (refine ⟨_, rfl, ?_⟩; (conv => whnf))
      | (refine ⟨_, _, rfl, ?_⟩; (conv => whnf))
      | (refine ⟨_, _, _, rfl, ?_⟩; (conv => whnf))
      | (refine ⟨_, _, _, _, rfl, ?_⟩; (conv => whnf))
      | fail)
    refine And.intro (fun c => ?_) (fun c => ?_) <;> (conv => whnf)
    · repeat' (first
        | ((with_reducible refine @And.intro (vp_in _ _) _ ?_ ?_); (· (first | with_reducible assumption | ((with_reducible refine t_vin ?_); decide) | ((with_reducible refine vp_in_nI ?_ ?_) <;> first | omega | decide) | (simp (disch := omega) only [xl_n, xl_m, nI_dec, nI_sb, nI_add, pk_mul]; (with_reducible refine vp_in_nI ?_ ?_) <;> first | omega | decide))); (conv => whnf))
        | (refine And.intro (by first | with_reducible assumption | exact (show tL _ = _ from rfl) | decide) ?_; (conv => whnf))
        | ((with_reducible refine @And.intro (_ = _) _ ?_ ?_); (· rfl); (conv => whnf))
        | ((with_reducible refine @And.intro (@LE.le Nat _ _ _) _ ?_ ?_); (· (first | exact Nat.zero_le _ | exact Nat.le_of_ble_eq_true rfl | omega)); (conv => whnf))
        | ((with_reducible refine @And.intro (@LT.lt Nat _ _ _) _ ?_ ?_); (· omega); (conv => whnf))
        | ((with_reducible refine @And.intro (∃ _, _ = _) _ ?_ ?_); (· exact ⟨_, rfl⟩); (conv => whnf))
        | ((with_reducible refine @And.intro (_ ∨ _) _ ?_ ?_); (· (first | exact Or.inl rfl | exact Or.inr rfl | exact t_b01 _ | assumption)); (conv => whnf))
        | ((with_reducible refine @And.intro (¬ (_ = _)) _ ?_ ?_); (· first | assumption | (with_reducible assumption)); (conv => whnf))
        | (refine hX _ _ _ _ _ _ ?_; (conv => whnf); fail_if_success show False)
        | (rw [t_si]; (conv => whnf))
        | (refine ⟨_, rfl, ?_⟩; (conv => whnf))
        | (refine ⟨_, _, rfl, ?_⟩; (conv => whnf))
        | (refine ⟨_, _, _, rfl, ?_⟩; (conv => whnf))
        | (refine ⟨_, _, _, _, rfl, ?_⟩; (conv => whnf))
        | (refine And.intro (fun c => ?_) (fun c => ?_) <;> (first | (exact absurd c (by decide +kernel)) | (conv => whnf)))
        | fail)
      exact out (Or.inr (Nat.le_antisymm h1 (t_kge hn' c (by omega) (by omega))))
    · have hk : k < t_h I := t_klt hn' c (by omega)
      have hkJ : k < t_h J := by omega
      repeat' (first
        | ((with_reducible refine @And.intro (vp_in _ _) _ ?_ ?_); (· (first | with_reducible assumption | ((with_reducible refine t_vin ?_); decide) | ((with_reducible refine vp_in_nI ?_ ?_) <;> first | omega | decide) | (simp (disch := omega) only [xl_n, xl_m, nI_dec, nI_sb, nI_add, pk_mul]; (with_reducible refine vp_in_nI ?_ ?_) <;> first | omega | decide))); (conv => whnf))
        | (refine And.intro (by first | with_reducible assumption | exact (show tL _ = _ from rfl) | decide) ?_; (conv => whnf))
        | ((with_reducible refine @And.intro (_ = _) _ ?_ ?_); (· rfl); (conv => whnf))
        | ((with_reducible refine @And.intro (@LE.le Nat _ _ _) _ ?_ ?_); (· (first | exact Nat.zero_le _ | exact Nat.le_of_ble_eq_true rfl | omega)); (conv => whnf))
        | ((with_reducible refine @And.intro (@LT.lt Nat _ _ _) _ ?_ ?_); (· omega); (conv => whnf))
        | ((with_reducible refine @And.intro (∃ _, _ = _) _ ?_ ?_); (· exact ⟨_, rfl⟩); (conv => whnf))
        | ((with_reducible refine @And.intro (_ ∨ _) _ ?_ ?_); (· (first | exact Or.inl rfl | exact Or.inr rfl | exact t_b01 _ | assumption)); (conv => whnf))
        | ((with_reducible refine @And.intro (¬ (_ = _)) _ ?_ ?_); (· first | assumption | (with_reducible assumption)); (conv => whnf))
        | (refine hX _ _ _ _ _ _ ?_; (conv => whnf); fail_if_success show False)
        | (rw [t_si]; (conv => whnf))
        | (refine ⟨_, rfl, ?_⟩; (conv => whnf))
        | (refine ⟨_, _, rfl, ?_⟩; (conv => whnf))
        | (refine ⟨_, _, _, rfl, ?_⟩; (conv => whnf))
        | (refine ⟨_, _, _, _, rfl, ?_⟩; (conv => whnf))
        | fail)
      refine And.intro (fun c2 => ?_) (fun c2 => ?_) <;> (conv => whnf)
      · repeat' (first
          | ((with_reducible refine @And.intro (vp_in _ _) _ ?_ ?_); (· (first | with_reducible assumption | ((with_reducible refine t_vin ?_); decide) | ((with_reducible refine vp_in_nI ?_ ?_) <;> first | omega | decide) | (simp (disch := omega) only [xl_n, xl_m, nI_dec, nI_sb, nI_add, pk_mul]; (with_reducible refine vp_in_nI ?_ ?_) <;> first | omega | decide))); (conv => whnf))
          | (refine And.intro (by first | with_reducible assumption | exact (show tL _ = _ from rfl) | decide) ?_; (conv => whnf))
          | ((with_reducible refine @And.intro (_ = _) _ ?_ ?_); (· rfl); (conv => whnf))
          | ((with_reducible refine @And.intro (@LE.le Nat _ _ _) _ ?_ ?_); (· (first | exact Nat.zero_le _ | exact Nat.le_of_ble_eq_true rfl | omega)); (conv => whnf))
          | ((with_reducible refine @And.intro (@LT.lt Nat _ _ _) _ ?_ ?_); (· omega); (conv => whnf))
          | ((with_reducible refine @And.intro (∃ _, _ = _) _ ?_ ?_); (· exact ⟨_, rfl⟩); (conv => whnf))
          | ((with_reducible refine @And.intro (_ ∨ _) _ ?_ ?_); (· (first | exact Or.inl rfl | exact Or.inr rfl | exact t_b01 _ | assumption)); (conv => whnf))
          | ((with_reducible refine @And.intro (¬ (_ = _)) _ ?_ ?_); (· first | assumption | (with_reducible assumption)); (conv => whnf))
          | (refine hX _ _ _ _ _ _ ?_; (conv => whnf); fail_if_success show False)
          | (rw [t_si]; (conv => whnf))
          | (refine ⟨_, rfl, ?_⟩; (conv => whnf))
          | (refine ⟨_, _, rfl, ?_⟩; (conv => whnf))
          | (refine ⟨_, _, _, rfl, ?_⟩; (conv => whnf))
          | (refine ⟨_, _, _, _, rfl, ?_⟩; (conv => whnf))
          | (refine And.intro (fun c => ?_) (fun c => ?_) <;> (first | (exact absurd c (by decide +kernel)) | (conv => whnf)))
          | fail)
        exact out (Or.inl (by rw [← e45]; exact c2))
      · have c3 : ¬ I 0 45 ≤ nI 0 := by rw [← e45]; exact c2
        repeat' (first
          | ((with_reducible refine @And.intro (vp_in _ _) _ ?_ ?_); (· (first | with_reducible assumption | ((with_reducible refine t_vin ?_); decide) | ((with_reducible refine vp_in_nI ?_ ?_) <;> first | omega | decide) | (simp (disch := omega) only [xl_n, xl_m, nI_dec, nI_sb, nI_add, pk_mul]; (with_reducible refine vp_in_nI ?_ ?_) <;> first | omega | decide))); (conv => whnf))
          | (refine And.intro (by first | with_reducible assumption | exact (show tL _ = _ from rfl) | decide) ?_; (conv => whnf))
          | ((with_reducible refine @And.intro (_ = _) _ ?_ ?_); (· rfl); (conv => whnf))
          | ((with_reducible refine @And.intro (@LE.le Nat _ _ _) _ ?_ ?_); (· (first | exact Nat.zero_le _ | exact Nat.le_of_ble_eq_true rfl | omega)); (conv => whnf))
          | ((with_reducible refine @And.intro (@LT.lt Nat _ _ _) _ ?_ ?_); (· omega); (conv => whnf))
          | ((with_reducible refine @And.intro (∃ _, _ = _) _ ?_ ?_); (· exact ⟨_, rfl⟩); (conv => whnf))
          | ((with_reducible refine @And.intro (_ ∨ _) _ ?_ ?_); (· (first | exact Or.inl rfl | exact Or.inr rfl | exact t_b01 _ | assumption)); (conv => whnf))
          | ((with_reducible refine @And.intro (¬ (_ = _)) _ ?_ ?_); (· first | assumption | (with_reducible assumption)); (conv => whnf))
          | (refine hX _ _ _ _ _ _ ?_; (conv => whnf); fail_if_success show False)
          | (rw [t_si]; (conv => whnf))
          | (refine ⟨_, rfl, ?_⟩; (conv => whnf))
          | (refine ⟨_, _, rfl, ?_⟩; (conv => whnf))
          | (refine ⟨_, _, _, rfl, ?_⟩; (conv => whnf))
          | (refine ⟨_, _, _, _, rfl, ?_⟩; (conv => whnf))
          | (rw [t_lrow hr]; (conv => whnf))
          | (rw [t_l110 (by first | with_reducible assumption | omega | exact vp_lt (by assumption) | (rw [nI_clamp (by omega)]; omega))]; (conv => whnf))
          | (refine And.intro (fun c => ?_) (fun c => ?_) <;> (first | (exact absurd c (by decide +kernel)) | (conv => whnf)))
          | fail)
        · clear hX hG hQ l2 l3 l4
          have nx := fun d' => ih (k + 1) (by omega) (by omega) (xm_u2 J 0 44 (g_lot (J 0 44))) d' (hJ.tr t_sl.l) (by rw [tA_u hr0, hA]) (fun _ => c3)
          clear ih
          simp (disch := omega) only [xl_n, xl_m, nI_dec, nI_sb, xl_0, xl_1, tW_i, t_bn0, t_bn1, Classical.not_not, t_lt, nI_add, nI_1, pk_mul, nI_clamp, t_si, nI_eq, nI_leI, nM_ne, nM_ne, xm_set, xm_lv0, xm_psh, eK, hA, xm_u2_at, xm_u2_ne, reduceIte, e45, Int32.or_zero] at *
          refine nx _ ?_
          rename_i al
          rw [g_lots_s, if_pos (by simpa using al), hL]
          dsimp only
          rw [if_neg (show ¬ (45 : Nat) = 44 by decide)] at c
          have c' : I 0 45 ≤ g_lot (J 0 44) >>> (nI 16 &&& 31) &&& nI 15 := c
          rw [if_pos c']
        · clear hX hG hQ l2 l3 l4
          have nx := fun d' => ih (k + 1) (by omega) (by omega) (xm_u2 J 0 44 (g_lot (J 0 44))) d' (hJ.tr t_sl.l) (by rw [tA_u hr0, hA]) (fun _ => c3)
          clear ih
          simp (disch := omega) only [xl_n, xl_m, nI_dec, nI_sb, xl_0, xl_1, tW_i, t_bn0, t_bn1, Classical.not_not, t_lt, nI_add, nI_1, pk_mul, nI_clamp, t_si, nI_eq, nI_leI, nM_ne, nM_ne, xm_set, xm_lv0, xm_psh, eK, hA, xm_u2_at, xm_u2_ne, reduceIte, e45] at *
          refine nx _ ?_
          rename_i al
          rw [g_lots_s, if_pos (by simpa using al), hL]
          dsimp only
          rw [if_neg (show ¬ (45 : Nat) = 44 by decide)] at c
          have c' : ¬ I 0 45 ≤ g_lot (J 0 44) >>> (nI 16 &&& 31) &&& nI 15 := c
          rw [if_neg c']
          rfl
        · have := ih (k + 1) (by omega) (by omega) J d hJ hA (fun _ => c3)
          clear ih hX hG hQ l2 l3 l4
          simp (disch := omega) only [xl_n, xl_m, nI_dec, nI_sb, xl_0, xl_1, tW_i, t_bn0, t_bn1, Classical.not_not, t_lt, nI_add, nI_1, pk_mul, nI_clamp, t_si, nI_eq, nI_leI, nM_ne, nM_ne, xm_set, xm_lv0, xm_psh, eK, hA] at *
          exact this (by rw [g_lots_s, if_neg (by simpa using c), hL])
  refine ⟨rfl, ?_⟩
  repeat' (first
    | ((with_reducible refine @And.intro (vp_in _ _) _ ?_ ?_); (· (first | with_reducible assumption | ((with_reducible refine t_vin ?_); decide) | ((with_reducible refine vp_in_nI ?_ ?_) <;> first | omega | decide) | (simp (disch := omega) only [xl_n, xl_m, nI_dec, nI_sb, nI_add, pk_mul]; (with_reducible refine vp_in_nI ?_ ?_) <;> first | omega | decide))); (conv => whnf))
    | (refine And.intro (by first | with_reducible assumption | exact (show tL _ = _ from rfl) | decide) ?_; (conv => whnf))
    | ((with_reducible refine @And.intro (_ = _) _ ?_ ?_); (· rfl); (conv => whnf))
    | ((with_reducible refine @And.intro (@LE.le Nat _ _ _) _ ?_ ?_); (· (first | exact Nat.zero_le _ | exact Nat.le_of_ble_eq_true rfl | omega)); (conv => whnf))
    | ((with_reducible refine @And.intro (@LT.lt Nat _ _ _) _ ?_ ?_); (· omega); (conv => whnf))
    | ((with_reducible refine @And.intro (∃ _, _ = _) _ ?_ ?_); (· exact ⟨_, rfl⟩); (conv => whnf))
    | ((with_reducible refine @And.intro (_ ∨ _) _ ?_ ?_); (· (first | exact Or.inl rfl | exact Or.inr rfl | exact t_b01 _ | assumption)); (conv => whnf))
    | ((with_reducible refine @And.intro (¬ (_ = _)) _ ?_ ?_); (· first | assumption | (with_reducible assumption)); (conv => whnf))
    | (refine hX _ _ _ _ _ _ ?_; (conv => whnf); fail_if_success show False)
    | (rw [t_si]; (conv => whnf))
    | (refine ⟨_, rfl, ?_⟩; (conv => whnf))
    | (refine ⟨_, _, rfl, ?_⟩; (conv => whnf))
    | (refine ⟨_, _, _, rfl, ?_⟩; (conv => whnf))
    | (refine ⟨_, _, _, _, rfl, ?_⟩; (conv => whnf))
    | (rw [t_lrow hr]; (conv => whnf))
    | (refine And.intro (fun c => ?_) (fun c => ?_) <;> (first | (exact absurd c (by decide +kernel)) | (conv => whnf)))
    | fail)
  have := l1 0 (Nat.zero_le _) (xm_u2 I row 106 (I row 106 + nI 1)) (nI 0) (t_sc.u hr0).sl tA_y (fun h => absurd rfl h) (by rw [xm_u2_ne (Ne.symm hr0)]; rfl)
  clear l1 l2 l3 l4
  simp (disch := omega) only [xl_n, xl_m, nI_dec, nI_sb, xl_0, xl_1, tW_i, t_bn0, t_bn1, Classical.not_not, t_lt, nI_add, nI_1, pk_mul, nI_clamp, t_si, nI_eq, nI_leI, nM_ne, nM_ne, xm_set, xm_lv0, xm_psh] at *
  exact this
theorem ct_X11_goes {Iv : xI} (hI : xm_good Iv) : xm_Ct Iv yX11_goes (ws_ yX11_goes cX11_goes 5 none) 6 0 0 S_X11_goes := xm_enter (rt := 2) (init := false) (by decide +kernel) rfl (fun h => by cases h) (Or.inr (Or.inr (Or.inl ⟨rfl, rfl⟩))) (oX11_goes hI) body_X11_goes
theorem cv_X11_goes {Iv : xI} {own : String} {cc : ByteArray} {fr pc idx : Nat} (hI : xm_good Iv) (hdg : decode cc pc = .ok (.invokevirtual idx, 3)) (hl : xm_ml own idx yX11_goes) (hfr : 6 < fr) : xm_CallOK Iv own cc fr pc (pc + 3) 2 0 0 (xm_this 8 S_X11_goes) := xm_callV 8 hI (ct_X11_goes hI) hdg hl q2380 qs96 q145 q2381 rfl rfl (by decide +kernel) hfr (by decide)
