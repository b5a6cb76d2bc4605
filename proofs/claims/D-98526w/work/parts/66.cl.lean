/-! ===== the reference: fates asked for ===== -/
set_option maxRecDepth 100000
def g_lackN (K : gK) (T : gT) (n : Nat) : Int32 := t_sum n fun p => if g_lack K T p ≤ nI 0 then nI 0 else nI 1
def g_playN (G : gG) (T : gT) (n : Nat) : Int32 := t_sum n fun a => if g_is (g_casts G T (g_alive (gGK G) T) a) = true then nI 1 else nI 0
def g_fateA (G : gG) (T : gT) (what : Int32) : Int32 := if what = nI 0 then t_ones (g_alive (gGK G) T) else if what = nI 3 then g_strs (gGK G) T else if what = nI 1 then g_lackN (gGK G) T (gm (gGK G)) else g_playN G T (gacts G)
def q_fates (G : gG) (seed q n what : Int32) : gR := g_ck G (t_in q (nI 0) (nI 16) && t_in n (nI 1) (nI 40) && t_in what (nI 0) (nI 3)) (nI 1) 1 (g_says G (g_fateA G (g_fated G seed q n.toNatClampNeg) what))
abbrev bX11_fates_0 : List xE := [(.aload_n 0, 1, 0, 0, 0), (.iconst 0, 2, 0, 0, 0), (.putfield 134, 5, 8, 0, 0), (.aload_n 0, 6, 0, 0, 0), (.iload_n 2, 7, 0, 0, 0), (.iconst 0, 8, 0, 0, 0), (.bipush 16, 10, 0, 0, 0), (.invokestatic 168, 13, 0, 0, 9), (.ifCond .eq 23, 16, 0, 36, 0), (.iload_n 3, 17, 0, 0, 0), (.iconst 1, 18, 0, 0, 0), (.bipush 40, 20, 0, 0, 0), (.invokestatic 168, 23, 0, 0, 9), (.ifCond .eq 13, 26, 0, 36, 0), (.iload 4, 28, 0, 0, 0), (.iconst 0, 29, 0, 0, 0), (.iconst 3, 30, 0, 0, 0), (.invokestatic 168, 33, 0, 0, 9), (.ifCond .ne 7, 36, 0, 40, 0)]
abbrev bX11_fates_36 : List xE := [(.iconst 1, 37, 0, 0, 0), (.goto 4, 40, 0, 41, 0)]
abbrev bX11_fates_40 : List xE := [(.iconst 0, 41, 0, 0, 0)]
abbrev bX11_fates_41 : List xE := [(.iconst 1, 42, 0, 0, 0), (.iconst 1, 43, 0, 0, 0), (.invokevirtual 249, 46, 0, 1, 9), (.ifCond .eq 5, 49, 0, 51, 0), (.iconst 0, 50, 0, 0, 0), (.ireturn, 51, 0, 0, 0)]
abbrev bX11_fates_51 : List xE := [(.aload_n 0, 52, 0, 0, 0), (.iload_n 1, 53, 0, 0, 0), (.iload_n 2, 54, 0, 0, 0), (.iload_n 3, 55, 0, 0, 0), (.invokevirtual 442, 58, 0, 2, 9), (.iload 4, 60, 0, 0, 0), (.ifCond .ne 15, 63, 0, 75, 0), (.aload_n 0, 64, 0, 0, 0), (.aload_n 0, 65, 0, 0, 0), (.getfield 100, 68, 8, 39, 1), (.invokevirtual 324, 71, 0, 3, 9), (.invokestatic 246, 74, 0, 4, 9), (.ireturn, 75, 0, 0, 0)]
abbrev bX11_fates_75 : List xE := [(.iload 4, 77, 0, 0, 0), (.iconst 3, 78, 0, 0, 0), (.if_icmp .ne 12, 81, 0, 90, 0), (.aload_n 0, 82, 0, 0, 0), (.aload_n 0, 83, 0, 0, 0), (.getfield 100, 86, 8, 39, 1), (.invokevirtual 328, 89, 0, 5, 9), (.ireturn, 90, 0, 0, 0)]
abbrev bX11_fates_90 : List xE := [(.iconst 0, 91, 0, 0, 0), (.istore 5, 93, 0, 0, 0), (.iconst 0, 94, 0, 0, 0), (.istore 6, 96, 0, 0, 0)]
abbrev bX11_fates_96 : List xE := [(.iload 6, 98, 0, 0, 0), (.aload_n 0, 99, 0, 0, 0), (.getfield 23, 102, 8, 12, 1), (.iconst 1, 103, 0, 0, 0), (.iaload, 104, 0, 0, 0), (.if_icmp .ge 38, 107, 0, 142, 0), (.iload 4, 109, 0, 0, 0), (.iconst 1, 110, 0, 0, 0), (.if_icmp .ne 32, 113, 0, 142, 0), (.iload 5, 115, 0, 0, 0), (.aload_n 0, 116, 0, 0, 0), (.aload_n 0, 117, 0, 0, 0), (.getfield 100, 120, 8, 39, 1), (.iload 6, 122, 0, 0, 0), (.invokevirtual 341, 125, 0, 6, 9), (.ifCond .le 7, 128, 0, 132, 0), (.iconst 1, 129, 0, 0, 0), (.goto 4, 132, 0, 133, 0)]
abbrev bX11_fates_132 : List xE := [(.iconst 0, 133, 0, 0, 0)]
abbrev bX11_fates_133 : List xE := [(.iadd, 134, 0, 0, 0), (.istore 5, 136, 0, 0, 0), (.iinc 6 1, 139, 0, 0, 0), (.goto (-43), 142, 0, 96, 0)]
abbrev bX11_fates_142 : List xE := [(.iconst 0, 143, 0, 0, 0), (.istore 6, 145, 0, 0, 0)]
abbrev bX11_fates_145 : List xE := [(.iload 6, 147, 0, 0, 0), (.aload_n 0, 148, 0, 0, 0), (.getfield 23, 151, 8, 12, 1), (.iconst 2, 152, 0, 0, 0), (.iaload, 153, 0, 0, 0), (.if_icmp .ge 38, 156, 0, 191, 0), (.iload 4, 158, 0, 0, 0), (.iconst 2, 159, 0, 0, 0), (.if_icmp .ne 32, 162, 0, 191, 0), (.iload 5, 164, 0, 0, 0), (.aload_n 0, 165, 0, 0, 0), (.aload_n 0, 166, 0, 0, 0), (.getfield 100, 169, 8, 39, 1), (.iload 6, 171, 0, 0, 0), (.invokevirtual 388, 174, 0, 7, 9), (.ifCond .eq 7, 177, 0, 181, 0), (.iconst 1, 178, 0, 0, 0), (.goto 4, 181, 0, 182, 0)]
abbrev bX11_fates_181 : List xE := [(.iconst 0, 182, 0, 0, 0)]
abbrev bX11_fates_182 : List xE := [(.iadd, 183, 0, 0, 0), (.istore 5, 185, 0, 0, 0), (.iinc 6 1, 188, 0, 0, 0), (.goto (-43), 191, 0, 145, 0)]
abbrev bX11_fates_191 : List xE := [(.iload 5, 193, 0, 0, 0), (.ireturn, 194, 0, 0, 0)]
abbrev kX11_fates : List (Nat × List xE) := [(0, bX11_fates_0), (36, bX11_fates_36), (40, bX11_fates_40), (41, bX11_fates_41), (51, bX11_fates_51), (75, bX11_fates_75), (90, bX11_fates_90), (96, bX11_fates_96), (132, bX11_fates_132), (133, bX11_fates_133), (142, bX11_fates_142), (145, bX11_fates_145), (181, bX11_fates_181), (182, bX11_fates_182), (191, bX11_fates_191)]
abbrev lX11_fates : List (Nat × Nat × Nat × xS) := [(3, 0, 0, S_X11_in), (4, 0, 0, xm_this 8 S_X11_bad), (4, 0, 0, xm_this 8 S_X11_fatesBy), (2, 0, 0, xm_this 8 S_X11_aliveOf), (1, 0, 0, S_X11_ones), (2, 0, 0, xm_this 8 S_X11_stringsOf), (3, 0, 0, xm_this 8 S_X11_lacksOf), (3, 0, 0, xm_this 8 S_X11_isCast)]
theorem oX11_fates_0 {Iv : xI} (hI : xm_good Iv)  : xm_okb Iv RX11 cX11_fates false 25 lX11_fates bX11_fates_0 0 := xo_0 dX11_fates_0 rfl trivial (xo_0 dX11_fates_1 rfl trivial (xo_0 dX11_fates_2 rfl (xm_fp_of (xm_fg_of (Or.inl q1955) (by decide) rfl (by decide) rfl rfl (Or.inl rfl) rfl) (by decide) rfl (Or.inl ⟨rfl, rfl⟩) rfl) (xo_0 dX11_fates_5 rfl trivial (xo_0 dX11_fates_6 rfl trivial (xo_0 dX11_fates_7 rfl trivial (xo_0 dX11_fates_8 rfl (xo_bipush (by decide +kernel)) (xo_c rfl (cv_X11_in hI dX11_fates_10 (Or.inl q1942) (by decide)) (xo_0 dX11_fates_13 rfl rfl (xo_0 dX11_fates_16 rfl trivial (xo_0 dX11_fates_17 rfl trivial (xo_0 dX11_fates_18 rfl (xo_bipush (by decide +kernel)) (xo_c rfl (cv_X11_in hI dX11_fates_20 (Or.inl q1942) (by decide)) (xo_0 dX11_fates_23 rfl rfl (xo_0 dX11_fates_26 rfl trivial (xo_0 dX11_fates_28 rfl trivial (xo_0 dX11_fates_29 rfl trivial (xo_c rfl (cv_X11_in hI dX11_fates_30 (Or.inl q1942) (by decide)) (xo_0 dX11_fates_33 rfl rfl (xo_n)))))))))))))))))))
theorem oX11_fates_36 {Iv : xI} (hI : xm_good Iv)  : xm_okb Iv RX11 cX11_fates false 25 lX11_fates bX11_fates_36 36 := xo_0 dX11_fates_36 rfl trivial (xo_0 dX11_fates_37 rfl rfl (xo_n))
theorem oX11_fates_40 {Iv : xI} (hI : xm_good Iv)  : xm_okb Iv RX11 cX11_fates false 25 lX11_fates bX11_fates_40 40 := xo_0 dX11_fates_40 rfl trivial (xo_n)
theorem oX11_fates_41 {Iv : xI} (hI : xm_good Iv)  : xm_okb Iv RX11 cX11_fates false 25 lX11_fates bX11_fates_41 41 := xo_0 dX11_fates_41 rfl trivial (xo_0 dX11_fates_42 rfl trivial (xo_c rfl (cv_X11_bad hI dX11_fates_43 (Or.inl q2137) (by decide)) (xo_0 dX11_fates_46 rfl rfl (xo_0 dX11_fates_49 rfl trivial (xo_0 dX11_fates_50 rfl trivial (xo_n))))))
theorem oX11_fates_51 {Iv : xI} (hI : xm_good Iv)  : xm_okb Iv RX11 cX11_fates false 25 lX11_fates bX11_fates_51 51 := xo_0 dX11_fates_51 rfl trivial (xo_0 dX11_fates_52 rfl trivial (xo_0 dX11_fates_53 rfl trivial (xo_0 dX11_fates_54 rfl trivial (xo_c rfl (cv_X11_fatesBy hI dX11_fates_55 (Or.inl q2600) (by decide)) (xo_0 dX11_fates_58 rfl trivial (xo_0 dX11_fates_60 rfl rfl (xo_0 dX11_fates_63 rfl trivial (xo_0 dX11_fates_64 rfl trivial (xo_1 dX11_fates_65 rfl (xm_fg_of (Or.inl q1994) (by decide) rfl (by decide) rfl rfl (Or.inl rfl) rfl) (xo_c rfl (cv_X11_aliveOf hI dX11_fates_68 (Or.inl q2288) (by decide)) (xo_c rfl (cv_X11_ones hI dX11_fates_71 (Or.inl q2218) (by decide)) (xo_0 dX11_fates_74 rfl trivial (xo_n)))))))))))))
theorem oX11_fates_75 {Iv : xI} (hI : xm_good Iv)  : xm_okb Iv RX11 cX11_fates false 25 lX11_fates bX11_fates_75 75 := xo_0 dX11_fates_75 rfl trivial (xo_0 dX11_fates_77 rfl trivial (xo_0 dX11_fates_78 rfl rfl (xo_0 dX11_fates_81 rfl trivial (xo_0 dX11_fates_82 rfl trivial (xo_1 dX11_fates_83 rfl (xm_fg_of (Or.inl q1994) (by decide) rfl (by decide) rfl rfl (Or.inl rfl) rfl) (xo_c rfl (cv_X11_stringsOf hI dX11_fates_86 (Or.inl q2296) (by decide)) (xo_0 dX11_fates_89 rfl trivial (xo_n))))))))
theorem oX11_fates_90 {Iv : xI} (hI : xm_good Iv)  : xm_okb Iv RX11 cX11_fates false 25 lX11_fates bX11_fates_90 90 := xo_0 dX11_fates_90 rfl trivial (xo_0 dX11_fates_91 rfl trivial (xo_0 dX11_fates_93 rfl trivial (xo_0 dX11_fates_94 rfl trivial (xo_n))))
theorem oX11_fates_96 {Iv : xI} (hI : xm_good Iv)  : xm_okb Iv RX11 cX11_fates false 25 lX11_fates bX11_fates_96 96 := xo_0 dX11_fates_96 rfl trivial (xo_0 dX11_fates_98 rfl trivial (xo_1 dX11_fates_99 rfl (xm_fg_of (Or.inl q1967) (by decide) rfl (by decide) rfl rfl (Or.inl rfl) rfl) (xo_0 dX11_fates_102 rfl trivial (xo_0 dX11_fates_103 rfl trivial (xo_0 dX11_fates_104 rfl rfl (xo_0 dX11_fates_107 rfl trivial (xo_0 dX11_fates_109 rfl trivial (xo_0 dX11_fates_110 rfl rfl (xo_0 dX11_fates_113 rfl trivial (xo_0 dX11_fates_115 rfl trivial (xo_0 dX11_fates_116 rfl trivial (xo_1 dX11_fates_117 rfl (xm_fg_of (Or.inl q1994) (by decide) rfl (by decide) rfl rfl (Or.inl rfl) rfl) (xo_0 dX11_fates_120 rfl trivial (xo_c rfl (cv_X11_lacksOf hI dX11_fates_122 (Or.inl q2323) (by decide)) (xo_0 dX11_fates_125 rfl rfl (xo_0 dX11_fates_128 rfl trivial (xo_0 dX11_fates_129 rfl rfl (xo_n))))))))))))))))))
theorem oX11_fates_132 {Iv : xI} (hI : xm_good Iv)  : xm_okb Iv RX11 cX11_fates false 25 lX11_fates bX11_fates_132 132 := xo_0 dX11_fates_132 rfl trivial (xo_n)
theorem oX11_fates_133 {Iv : xI} (hI : xm_good Iv)  : xm_okb Iv RX11 cX11_fates false 25 lX11_fates bX11_fates_133 133 := xo_0 dX11_fates_133 rfl trivial (xo_0 dX11_fates_134 rfl trivial (xo_0 dX11_fates_136 rfl trivial (xo_0 dX11_fates_139 rfl rfl (xo_n))))
theorem oX11_fates_142 {Iv : xI} (hI : xm_good Iv)  : xm_okb Iv RX11 cX11_fates false 25 lX11_fates bX11_fates_142 142 := xo_0 dX11_fates_142 rfl trivial (xo_0 dX11_fates_143 rfl trivial (xo_n))
theorem oX11_fates_145 {Iv : xI} (hI : xm_good Iv)  : xm_okb Iv RX11 cX11_fates false 25 lX11_fates bX11_fates_145 145 := xo_0 dX11_fates_145 rfl trivial (xo_0 dX11_fates_147 rfl trivial (xo_1 dX11_fates_148 rfl (xm_fg_of (Or.inl q1967) (by decide) rfl (by decide) rfl rfl (Or.inl rfl) rfl) (xo_0 dX11_fates_151 rfl trivial (xo_0 dX11_fates_152 rfl trivial (xo_0 dX11_fates_153 rfl rfl (xo_0 dX11_fates_156 rfl trivial (xo_0 dX11_fates_158 rfl trivial (xo_0 dX11_fates_159 rfl rfl (xo_0 dX11_fates_162 rfl trivial (xo_0 dX11_fates_164 rfl trivial (xo_0 dX11_fates_165 rfl trivial (xo_1 dX11_fates_166 rfl (xm_fg_of (Or.inl q1994) (by decide) rfl (by decide) rfl rfl (Or.inl rfl) rfl) (xo_0 dX11_fates_169 rfl trivial (xo_c rfl (cv_X11_isCast hI dX11_fates_171 (Or.inl q2419) (by decide)) (xo_0 dX11_fates_174 rfl rfl (xo_0 dX11_fates_177 rfl trivial (xo_0 dX11_fates_178 rfl rfl (xo_n))))))))))))))))))
theorem oX11_fates_181 {Iv : xI} (hI : xm_good Iv)  : xm_okb Iv RX11 cX11_fates false 25 lX11_fates bX11_fates_181 181 := xo_0 dX11_fates_181 rfl trivial (xo_n)
theorem oX11_fates_182 {Iv : xI} (hI : xm_good Iv)  : xm_okb Iv RX11 cX11_fates false 25 lX11_fates bX11_fates_182 182 := xo_0 dX11_fates_182 rfl trivial (xo_0 dX11_fates_183 rfl trivial (xo_0 dX11_fates_185 rfl trivial (xo_0 dX11_fates_188 rfl rfl (xo_n))))
theorem oX11_fates_191 {Iv : xI} (hI : xm_good Iv)  : xm_okb Iv RX11 cX11_fates false 25 lX11_fates bX11_fates_191 191 := xo_0 dX11_fates_191 rfl trivial (xo_0 dX11_fates_193 rfl trivial (xo_n))
theorem oX11_fates {Iv : xI} (hI : xm_good Iv)  : ∀ q ∈ kX11_fates, xm_okb Iv RX11 cX11_fates false 25 lX11_fates q.2 q.1 := by
  intro q hq
  simp only [List.mem_cons, List.not_mem_nil, or_false] at hq
  rcases hq with rfl | rfl | rfl | rfl | rfl | rfl | rfl | rfl | rfl | rfl | rfl | rfl | rfl | rfl | rfl
  · exact oX11_fates_0 hI  
  · exact oX11_fates_36 hI  
  · exact oX11_fates_40 hI  
  · exact oX11_fates_41 hI  
  · exact oX11_fates_51 hI  
  · exact oX11_fates_75 hI  
  · exact oX11_fates_90 hI  
  · exact oX11_fates_96 hI  
  · exact oX11_fates_132 hI  
  · exact oX11_fates_133 hI  
  · exact oX11_fates_142 hI  
  · exact oX11_fates_145 hI  
  · exact oX11_fates_181 hI  
  · exact oX11_fates_182 hI  
  · exact oX11_fates_191 hI  
def S_X11_fates : xS := tU fun as I Q => ∃ seed q n what, as = [.ref 0, .int seed, .int q, .int n, .int what] ∧ t_good I ∧ g_need (tG I) ∧ t_P Q (q_fates (tG I) seed q n what)
theorem body_X11_fates : xm_Body 7 0 0 0 [] lX11_fates kX11_fates S_X11_fates := by
  intro X avs w Q QX hX0 hS
  have hG := xm_go [] hX0
  have hX := xm_go [96,145] hX0
  clear hX0
  obtain ⟨I, rfl, seed, q, n, what, rfl, hg, hnd, hQ⟩ := hS
  refine ⟨rfl, ?_⟩
  repeat' (first
    | ((with_reducible refine @And.intro (vp_in _ _) _ ?_ ?_); (· (first | with_reducible assumption | ((with_reducible refine t_vin ?_); decide) | ((with_reducible refine vp_in_nI ?_ ?_) <;> first | omega | decide) | (simp (disch := omega) only [xl_n, xl_m, nI_dec, nI_sb, nI_add, pk_mul]; (with_reducible refine vp_in_nI ?_ ?_) <;> first | omega | decide))); (conv => whnf))
    | (refine And.intro (by first | with_reducible assumption | exact (show tL _ = _ from rfl) | decide) ?_; (conv => whnf))
    | ((with_reducible refine @And.intro (_ = _) _ ?_ ?_); (· rfl); (conv => whnf))
    | ((with_reducible refine @And.intro (@LE.le Nat _ _ _) _ ?_ ?_); (· (first | exact Nat.zero_le _ | exact Nat.le_of_ble_eq_true rfl | omega)); (conv => whnf))
    | ((with_reducible refine @And.intro (@LT.lt Nat _ _ _) _ ?_ ?_); (· omega); (conv => whnf))
    | ((with_reducible refine @And.intro (∃ _, _ = _) _ ?_ ?_); (· exact ⟨_, rfl⟩); (conv => whnf))
    | ((with_reducible refine @And.intro (_ ∨ _) _ ?_ ?_); (· (first | exact Or.inl rfl | exact Or.inr rfl | exact t_b01 _ | assumption)); (conv => whnf))
    | ((with_reducible refine @And.intro (¬ (_ = _)) _ ?_ ?_); (· first | assumption | (with_reducible assumption)); (conv => whnf))
    | (refine hX _ _ _ _ _ _ ?_; (conv => whnf); fail_if_success show False)
    | fail)
  rw [t_si]
  obtain ⟨J, hJ, hg1, hG1, h01⟩ := t_pub hg
  rw [← hJ]
  rw [← hG1] at hQ hnd
  clear hJ hG1 hg I
  have hg := hg1
  have hok := hg.1
  have hl := hg.2.1
  have h8 := hok.2.2.2.1
  have h9 := hok.2.1
  (conv => whnf)
  have ha2 := hok.2.2.2.2.1
  have h6a := hok.2.2.2.2.2
  have hm := hok.2.2.1
  rcases t_rc q 0 16 (L := Int32.ofInt 0) (H := Int32.ofInt 16) (by decide +kernel) (by decide +kernel) (by omega) (by omega) with ⟨q, -, hq, rfl, e1, f1⟩ | ⟨e1, f1⟩
  · rcases t_rc n 1 40 (L := Int32.ofInt 1) (H := Int32.ofInt 40) (by decide +kernel) (by decide +kernel) (by omega) (by omega) with ⟨n, hn1, hn40, rfl, e2, f2⟩ | ⟨e2, f2⟩
    · rcases t_rc what 0 3 (L := Int32.ofInt 0) (H := Int32.ofInt 3) (by decide +kernel) (by decide +kernel) (by omega) (by omega) with ⟨w, -, hw, rfl, e3, f3⟩ | ⟨e3, f3⟩
      · rw [q_fates, f1, f2, f3, Bool.and_true, Bool.and_true, g_ck_t, nI_clamp (by omega)] at hQ
        generalize hT : g_fated (tG J) seed (nI q) n = T at hQ
        have stop : ∀ M v z, t_sp J M → M 0 0 = nI 0 → ¬ w = 2 → g_fateA (tG J) T (nI w) = v → X 145 [some (.ref 0), some (.int seed), some (.int (nI q)), some (.int (nI n)), some (.int (nI w)), some (.int v), some (.int (nI z))] [] (tW M) 0 0 := by
          intro M v z hM h0 hw2 hv
          have ne : ¬ nI w = Int32.ofInt 2 := by
            rw [xl_n.2.2.1, nI_eq (by omega) (by omega)]
            exact hw2
          refine hG _ _ _ _ _ _ ?_
          (conv => whnf)
          repeat' (first
            | ((with_reducible refine @And.intro (vp_in _ _) _ ?_ ?_); (· (first | with_reducible assumption | ((with_reducible refine t_vin ?_); decide) | ((with_reducible refine vp_in_nI ?_ ?_) <;> first | omega | decide) | (simp (disch := omega) only [xl_n, xl_m, nI_dec, nI_sb, nI_add, pk_mul]; (with_reducible refine vp_in_nI ?_ ?_) <;> first | omega | decide))); (conv => whnf))
            | (refine And.intro (by first | with_reducible assumption | exact (show tL _ = _ from rfl) | decide) ?_; (conv => whnf))
            | ((with_reducible refine @And.intro (_ = _) _ ?_ ?_); (· rfl); (conv => whnf))
            | ((with_reducible refine @And.intro (@LE.le Nat _ _ _) _ ?_ ?_); (· (first | exact Nat.zero_le _ | exact Nat.le_of_ble_eq_true rfl | omega)); (conv => whnf))
            | ((with_reducible refine @And.intro (@LT.lt Nat _ _ _) _ ?_ ?_); (· omega); (conv => whnf))
            | ((with_reducible refine @And.intro (∃ _, _ = _) _ ?_ ?_); (· exact ⟨_, rfl⟩); (conv => whnf))
            | ((with_reducible refine @And.intro (_ ∨ _) _ ?_ ?_); (· (first | exact Or.inl rfl | exact Or.inr rfl | exact t_b01 _ | assumption)); (conv => whnf))
            | ((with_reducible refine @And.intro (¬ (_ = _)) _ ?_ ?_); (· first | assumption | (with_reducible assumption)); (conv => whnf))
            | (refine hX _ _ _ _ _ _ ?_; (conv => whnf); fail_if_success show False)
            | (rw [t_si]; (conv => whnf))
            | (refine ⟨_, rfl, ?_⟩; (conv => whnf))
            | (refine ⟨_, _, rfl, ?_⟩; (conv => whnf))
            | (refine ⟨_, _, _, rfl, ?_⟩; (conv => whnf))
            | (refine ⟨_, _, _, _, rfl, ?_⟩; (conv => whnf))
            | (refine And.intro (fun c => ?_) (fun c => ?_) <;> (first | (exact absurd c (by decide +kernel)) | (conv => whnf)))
            | fail)
          · exact t_ask hQ hg hM h0 hv.symm
          · exact t_ask hQ hg hM h0 hv.symm
          · exact absurd (Classical.not_not.mp (by assumption)) ne
        have l2 : w = 2 → ∀ a, a ≤ t_a J → ∀ M, t_sp J M → M 0 0 = nI 0 → tA M 39 = T → X 145 [some (.ref 0), some (.int seed), some (.int (nI q)), some (.int (nI n)), some (.int (nI w)), some (.int (g_playN (tG J) T a)), some (.int (nI a))] [] (tW M) 0 0 := by
          intro hw2
          subst hw2
          refine t_for fun a h1 ih M hM h0 hA => ?_
          have nx := ih (a + 1) (by omega)
          clear ih
          have hgM := hM.good hg
          have eG := hM.G hg
          have eK : tK M = tK J := hM.same.K hg
          have m2 : M 12 2 = nI (t_a J) := by rw [hM.1 12 (by decide) (t_nf (by omega))]; exact ha2
          refine hG _ _ _ _ _ _ ?_
          (conv => whnf)
          repeat' (first
            | ((with_reducible refine @And.intro (vp_in _ _) _ ?_ ?_); (· (first | with_reducible assumption | ((with_reducible refine t_vin ?_); decide) | ((with_reducible refine vp_in_nI ?_ ?_) <;> first | omega | decide) | (simp (disch := omega) only [xl_n, xl_m, nI_dec, nI_sb, nI_add, pk_mul]; (with_reducible refine vp_in_nI ?_ ?_) <;> first | omega | decide))); (conv => whnf))
            | (refine And.intro (by first | with_reducible assumption | exact (show tL _ = _ from rfl) | decide) ?_; (conv => whnf))
            | ((with_reducible refine @And.intro (_ = _) _ ?_ ?_); (· rfl); (conv => whnf))
            | ((with_reducible refine @And.intro (@LE.le Nat _ _ _) _ ?_ ?_); (· (first | exact Nat.zero_le _ | exact Nat.le_of_ble_eq_true rfl | omega)); (conv => whnf))
            | ((with_reducible refine @And.intro (@LT.lt Nat _ _ _) _ ?_ ?_); (· omega); (conv => whnf))
            | ((with_reducible refine @And.intro (∃ _, _ = _) _ ?_ ?_); (· exact ⟨_, rfl⟩); (conv => whnf))
            | ((with_reducible refine @And.intro (_ ∨ _) _ ?_ ?_); (· (first | exact Or.inl rfl | exact Or.inr rfl | exact t_b01 _ | assumption)); (conv => whnf))
            | ((with_reducible refine @And.intro (¬ (_ = _)) _ ?_ ?_); (· first | assumption | (with_reducible assumption)); (conv => whnf))
            | (refine hX _ _ _ _ _ _ ?_; (conv => whnf); fail_if_success show False)
            | (rw [t_si]; (conv => whnf))
            | (refine ⟨_, rfl, ?_⟩; (conv => whnf))
            | (refine ⟨_, _, rfl, ?_⟩; (conv => whnf))
            | (refine ⟨_, _, _, rfl, ?_⟩; (conv => whnf))
            | (refine ⟨_, _, _, _, rfl, ?_⟩; (conv => whnf))
            | fail)
          refine And.intro (fun c => ?_) (fun c => ?_) <;> (conv => whnf)
          · have : a = t_a J := Nat.le_antisymm h1 (t_kge m2 c (by omega) (by omega))
            subst this
            repeat' (first
              | ((with_reducible refine @And.intro (vp_in _ _) _ ?_ ?_); (· (first | with_reducible assumption | ((with_reducible refine t_vin ?_); decide) | ((with_reducible refine vp_in_nI ?_ ?_) <;> first | omega | decide) | (simp (disch := omega) only [xl_n, xl_m, nI_dec, nI_sb, nI_add, pk_mul]; (with_reducible refine vp_in_nI ?_ ?_) <;> first | omega | decide))); (conv => whnf))
              | (refine And.intro (by first | with_reducible assumption | exact (show tL _ = _ from rfl) | decide) ?_; (conv => whnf))
              | ((with_reducible refine @And.intro (_ = _) _ ?_ ?_); (· rfl); (conv => whnf))
              | ((with_reducible refine @And.intro (@LE.le Nat _ _ _) _ ?_ ?_); (· (first | exact Nat.zero_le _ | exact Nat.le_of_ble_eq_true rfl | omega)); (conv => whnf))
              | ((with_reducible refine @And.intro (@LT.lt Nat _ _ _) _ ?_ ?_); (· omega); (conv => whnf))
              | ((with_reducible refine @And.intro (∃ _, _ = _) _ ?_ ?_); (· exact ⟨_, rfl⟩); (conv => whnf))
              | ((with_reducible refine @And.intro (_ ∨ _) _ ?_ ?_); (· (first | exact Or.inl rfl | exact Or.inr rfl | exact t_b01 _ | assumption)); (conv => whnf))
              | ((with_reducible refine @And.intro (¬ (_ = _)) _ ?_ ?_); (· first | assumption | (with_reducible assumption)); (conv => whnf))
              | (refine hX _ _ _ _ _ _ ?_; (conv => whnf); fail_if_success show False)
              | (rw [t_si]; (conv => whnf))
              | (refine ⟨_, rfl, ?_⟩; (conv => whnf))
              | (refine ⟨_, _, rfl, ?_⟩; (conv => whnf))
              | (refine ⟨_, _, _, rfl, ?_⟩; (conv => whnf))
              | (refine ⟨_, _, _, _, rfl, ?_⟩; (conv => whnf))
              | (refine And.intro (fun c => ?_) (fun c => ?_) <;> (first | (exact absurd c (by decide +kernel)) | (conv => whnf)))
              | fail)
            exact t_ask hQ hg hM h0 rfl
          · have ha : a < t_a J := t_klt m2 c (by omega)
            have haM : a < t_a M := by
              have : t_a M = t_a J := by unfold t_a; rw [hM.fx 12 (Or.inl rfl)]
              omega
            have hndM : g_need (tG M) := by rw [eG]; exact hnd
            repeat' (first
              | ((with_reducible refine @And.intro (vp_in _ _) _ ?_ ?_); (· (first | with_reducible assumption | ((with_reducible refine t_vin ?_); decide) | ((with_reducible refine vp_in_nI ?_ ?_) <;> first | omega | decide) | (simp (disch := omega) only [xl_n, xl_m, nI_dec, nI_sb, nI_add, pk_mul]; (with_reducible refine vp_in_nI ?_ ?_) <;> first | omega | decide))); (conv => whnf))
              | (refine And.intro (by first | with_reducible assumption | exact (show tL _ = _ from rfl) | decide) ?_; (conv => whnf))
              | ((with_reducible refine @And.intro (_ = _) _ ?_ ?_); (· rfl); (conv => whnf))
              | ((with_reducible refine @And.intro (@LE.le Nat _ _ _) _ ?_ ?_); (· (first | exact Nat.zero_le _ | exact Nat.le_of_ble_eq_true rfl | omega)); (conv => whnf))
              | ((with_reducible refine @And.intro (@LT.lt Nat _ _ _) _ ?_ ?_); (· omega); (conv => whnf))
              | ((with_reducible refine @And.intro (∃ _, _ = _) _ ?_ ?_); (· exact ⟨_, rfl⟩); (conv => whnf))
              | ((with_reducible refine @And.intro (_ ∨ _) _ ?_ ?_); (· (first | exact Or.inl rfl | exact Or.inr rfl | exact t_b01 _ | assumption)); (conv => whnf))
              | ((with_reducible refine @And.intro (¬ (_ = _)) _ ?_ ?_); (· first | assumption | (with_reducible assumption)); (conv => whnf))
              | (refine hX _ _ _ _ _ _ ?_; (conv => whnf); fail_if_success show False)
              | (rw [t_si]; (conv => whnf))
              | (refine ⟨_, rfl, ?_⟩; (conv => whnf))
              | (refine ⟨_, _, rfl, ?_⟩; (conv => whnf))
              | (refine ⟨_, _, _, rfl, ?_⟩; (conv => whnf))
              | (refine ⟨_, _, _, _, rfl, ?_⟩; (conv => whnf))
              | (refine And.intro (fun c => ?_) (fun c => ?_) <;> (first | (exact absurd c (by decide +kernel)) | (conv => whnf)))
              | fail)
            intro L hL h0L eA
            have nx := nx (by omega) L (hM.tr hL) (h0L.trans h0) (eA.trans hA)
            have es : g_playN (tG J) T (a + 1) = g_playN (tG J) T a + (if g_is (g_casts (tG J) T (g_alive (tK J) T) a) = true then nI 1 else nI 0) := rfl
            rw [es] at nx
            rw [eG, eK, hA]
            (conv => whnf)
            repeat' (first
              | ((with_reducible refine @And.intro (vp_in _ _) _ ?_ ?_); (· (first | with_reducible assumption | ((with_reducible refine t_vin ?_); decide) | ((with_reducible refine vp_in_nI ?_ ?_) <;> first | omega | decide) | (simp (disch := omega) only [xl_n, xl_m, nI_dec, nI_sb, nI_add, pk_mul]; (with_reducible refine vp_in_nI ?_ ?_) <;> first | omega | decide))); (conv => whnf))
              | (refine And.intro (by first | with_reducible assumption | exact (show tL _ = _ from rfl) | decide) ?_; (conv => whnf))
              | ((with_reducible refine @And.intro (_ = _) _ ?_ ?_); (· rfl); (conv => whnf))
              | ((with_reducible refine @And.intro (@LE.le Nat _ _ _) _ ?_ ?_); (· (first | exact Nat.zero_le _ | exact Nat.le_of_ble_eq_true rfl | omega)); (conv => whnf))
              | ((with_reducible refine @And.intro (@LT.lt Nat _ _ _) _ ?_ ?_); (· omega); (conv => whnf))
              | ((with_reducible refine @And.intro (∃ _, _ = _) _ ?_ ?_); (· exact ⟨_, rfl⟩); (conv => whnf))
              | ((with_reducible refine @And.intro (_ ∨ _) _ ?_ ?_); (· (first | exact Or.inl rfl | exact Or.inr rfl | exact t_b01 _ | assumption)); (conv => whnf))
              | ((with_reducible refine @And.intro (¬ (_ = _)) _ ?_ ?_); (· first | assumption | (with_reducible assumption)); (conv => whnf))
              | (refine hX _ _ _ _ _ _ ?_; (conv => whnf); fail_if_success show False)
              | (rw [t_si]; (conv => whnf))
              | (refine ⟨_, rfl, ?_⟩; (conv => whnf))
              | (refine ⟨_, _, rfl, ?_⟩; (conv => whnf))
              | (refine ⟨_, _, _, rfl, ?_⟩; (conv => whnf))
              | (refine ⟨_, _, _, _, rfl, ?_⟩; (conv => whnf))
              | (refine And.intro (fun c => ?_) (fun c => ?_) <;> (first | (exact absurd c (by decide +kernel)) | (conv => whnf)))
              | fail)
            · have c' : t_b (g_is (g_casts (tG J) T (g_alive (tK J) T) a)) = 0 := by assumption
              rw [t_b0] at c'
              rw [c', if_neg (by decide)] at nx
              clear hX hG hQ
              simp (disch := omega) only [xl_n, xl_m, nI_dec, nI_sb, xl_0, xl_1, tW_i, t_bn0, t_bn1, Classical.not_not, t_lt, nI_add, nI_1, pk_mul, nI_clamp, t_si, nI_eq, nI_leI, nM_ne, nM_ne, xm_set, xm_lv0, xm_psh] at *
              exact nx
            · have c' : ¬ t_b (g_is (g_casts (tG J) T (g_alive (tK J) T) a)) = 0 := by assumption
              rw [t_b0, Bool.not_eq_false] at c'
              rw [if_pos c'] at nx
              clear hX hG hQ
              simp (disch := omega) only [xl_n, xl_m, nI_dec, nI_sb, xl_0, xl_1, tW_i, t_bn0, t_bn1, Classical.not_not, t_lt, nI_add, nI_1, pk_mul, nI_clamp, t_si, nI_eq, nI_leI, nM_ne, nM_ne, xm_set, xm_lv0, xm_psh] at *
              exact nx
        have l1 : w = 1 → ∀ p, p ≤ t_p J → ∀ M, t_sp J M → M 0 0 = nI 0 → tA M 39 = T → X 96 [some (.ref 0), some (.int seed), some (.int (nI q)), some (.int (nI n)), some (.int (nI w)), some (.int (g_lackN (tK J) T p)), some (.int (nI p))] [] (tW M) 0 0 := by
          intro hw1
          subst hw1
          refine t_for fun p h1 ih M hM h0 hA => ?_
          have nx := ih (p + 1) (by omega)
          clear ih
          have hgM := hM.good hg
          have hokM := hgM.1
          have eK : tK M = tK J := hM.same.K hg
          have m1 : M 12 1 = nI (t_p J) := by rw [hM.fx 12 (Or.inl rfl)]; exact hm
          refine hG _ _ _ _ _ _ ?_
          (conv => whnf)
          repeat' (first
            | ((with_reducible refine @And.intro (vp_in _ _) _ ?_ ?_); (· (first | with_reducible assumption | ((with_reducible refine t_vin ?_); decide) | ((with_reducible refine vp_in_nI ?_ ?_) <;> first | omega | decide) | (simp (disch := omega) only [xl_n, xl_m, nI_dec, nI_sb, nI_add, pk_mul]; (with_reducible refine vp_in_nI ?_ ?_) <;> first | omega | decide))); (conv => whnf))
            | (refine And.intro (by first | with_reducible assumption | exact (show tL _ = _ from rfl) | decide) ?_; (conv => whnf))
            | ((with_reducible refine @And.intro (_ = _) _ ?_ ?_); (· rfl); (conv => whnf))
            | ((with_reducible refine @And.intro (@LE.le Nat _ _ _) _ ?_ ?_); (· (first | exact Nat.zero_le _ | exact Nat.le_of_ble_eq_true rfl | omega)); (conv => whnf))
            | ((with_reducible refine @And.intro (@LT.lt Nat _ _ _) _ ?_ ?_); (· omega); (conv => whnf))
            | ((with_reducible refine @And.intro (∃ _, _ = _) _ ?_ ?_); (· exact ⟨_, rfl⟩); (conv => whnf))
            | ((with_reducible refine @And.intro (_ ∨ _) _ ?_ ?_); (· (first | exact Or.inl rfl | exact Or.inr rfl | exact t_b01 _ | assumption)); (conv => whnf))
            | ((with_reducible refine @And.intro (¬ (_ = _)) _ ?_ ?_); (· first | assumption | (with_reducible assumption)); (conv => whnf))
            | (refine hX _ _ _ _ _ _ ?_; (conv => whnf); fail_if_success show False)
            | (rw [t_si]; (conv => whnf))
            | (refine ⟨_, rfl, ?_⟩; (conv => whnf))
            | (refine ⟨_, _, rfl, ?_⟩; (conv => whnf))
            | (refine ⟨_, _, _, rfl, ?_⟩; (conv => whnf))
            | (refine ⟨_, _, _, _, rfl, ?_⟩; (conv => whnf))
            | fail)
          refine And.intro (fun c => ?_) (fun c => ?_) <;> (conv => whnf)
          · have : p = t_p J := Nat.le_antisymm h1 (t_kge m1 c (by omega) (by omega))
            subst this
            repeat' (first
              | ((with_reducible refine @And.intro (vp_in _ _) _ ?_ ?_); (· (first | with_reducible assumption | ((with_reducible refine t_vin ?_); decide) | ((with_reducible refine vp_in_nI ?_ ?_) <;> first | omega | decide) | (simp (disch := omega) only [xl_n, xl_m, nI_dec, nI_sb, nI_add, pk_mul]; (with_reducible refine vp_in_nI ?_ ?_) <;> first | omega | decide))); (conv => whnf))
              | (refine And.intro (by first | with_reducible assumption | exact (show tL _ = _ from rfl) | decide) ?_; (conv => whnf))
              | ((with_reducible refine @And.intro (_ = _) _ ?_ ?_); (· rfl); (conv => whnf))
              | ((with_reducible refine @And.intro (@LE.le Nat _ _ _) _ ?_ ?_); (· (first | exact Nat.zero_le _ | exact Nat.le_of_ble_eq_true rfl | omega)); (conv => whnf))
              | ((with_reducible refine @And.intro (@LT.lt Nat _ _ _) _ ?_ ?_); (· omega); (conv => whnf))
              | ((with_reducible refine @And.intro (∃ _, _ = _) _ ?_ ?_); (· exact ⟨_, rfl⟩); (conv => whnf))
              | ((with_reducible refine @And.intro (_ ∨ _) _ ?_ ?_); (· (first | exact Or.inl rfl | exact Or.inr rfl | exact t_b01 _ | assumption)); (conv => whnf))
              | ((with_reducible refine @And.intro (¬ (_ = _)) _ ?_ ?_); (· first | assumption | (with_reducible assumption)); (conv => whnf))
              | (refine hX _ _ _ _ _ _ ?_; (conv => whnf); fail_if_success show False)
              | (rw [t_si]; (conv => whnf))
              | (refine ⟨_, rfl, ?_⟩; (conv => whnf))
              | (refine ⟨_, _, rfl, ?_⟩; (conv => whnf))
              | (refine ⟨_, _, _, rfl, ?_⟩; (conv => whnf))
              | (refine ⟨_, _, _, _, rfl, ?_⟩; (conv => whnf))
              | (refine And.intro (fun c => ?_) (fun c => ?_) <;> (first | (exact absurd c (by decide +kernel)) | (conv => whnf)))
              | fail)
            exact stop M _ 0 hM h0 (by decide) rfl
          · have hp : p < t_p J := t_klt m1 c (by omega)
            have hpM : p < t_p M := by rw [t_p_eq (hM.fx 12 (Or.inl rfl))]; exact hp
            have nx := nx (by omega) M hM h0 hA
            have es : g_lackN (tK J) T (p + 1) = g_lackN (tK J) T p + (if g_lack (tK J) T p ≤ nI 0 then nI 0 else nI 1) := rfl
            rw [es, ← hA, ← eK] at nx
            rw [← hA, ← eK]
            repeat' (first
              | ((with_reducible refine @And.intro (vp_in _ _) _ ?_ ?_); (· (first | with_reducible assumption | ((with_reducible refine t_vin ?_); decide) | ((with_reducible refine vp_in_nI ?_ ?_) <;> first | omega | decide) | (simp (disch := omega) only [xl_n, xl_m, nI_dec, nI_sb, nI_add, pk_mul]; (with_reducible refine vp_in_nI ?_ ?_) <;> first | omega | decide))); (conv => whnf))
              | (refine And.intro (by first | with_reducible assumption | exact (show tL _ = _ from rfl) | decide) ?_; (conv => whnf))
              | ((with_reducible refine @And.intro (_ = _) _ ?_ ?_); (· rfl); (conv => whnf))
              | ((with_reducible refine @And.intro (@LE.le Nat _ _ _) _ ?_ ?_); (· (first | exact Nat.zero_le _ | exact Nat.le_of_ble_eq_true rfl | omega)); (conv => whnf))
              | ((with_reducible refine @And.intro (@LT.lt Nat _ _ _) _ ?_ ?_); (· omega); (conv => whnf))
              | ((with_reducible refine @And.intro (∃ _, _ = _) _ ?_ ?_); (· exact ⟨_, rfl⟩); (conv => whnf))
              | ((with_reducible refine @And.intro (_ ∨ _) _ ?_ ?_); (· (first | exact Or.inl rfl | exact Or.inr rfl | exact t_b01 _ | assumption)); (conv => whnf))
              | ((with_reducible refine @And.intro (¬ (_ = _)) _ ?_ ?_); (· first | assumption | (with_reducible assumption)); (conv => whnf))
              | (refine hX _ _ _ _ _ _ ?_; (conv => whnf); fail_if_success show False)
              | (rw [t_si]; (conv => whnf))
              | (refine ⟨_, rfl, ?_⟩; (conv => whnf))
              | (refine ⟨_, _, rfl, ?_⟩; (conv => whnf))
              | (refine ⟨_, _, _, rfl, ?_⟩; (conv => whnf))
              | (refine ⟨_, _, _, _, rfl, ?_⟩; (conv => whnf))
              | (refine And.intro (fun c => ?_) (fun c => ?_) <;> (first | (exact absurd c (by decide +kernel)) | (conv => whnf)))
              | fail)
            · have c' : g_lack (tK M) (tA M 39) p ≤ nI 0 := by assumption
              rw [if_pos c'] at nx
              clear hX hG hQ
              simp (disch := omega) only [xl_n, xl_m, nI_dec, nI_sb, xl_0, xl_1, tW_i, t_bn0, t_bn1, Classical.not_not, t_lt, nI_add, nI_1, pk_mul, nI_clamp, t_si, nI_eq, nI_leI, nM_ne, nM_ne, xm_set, xm_lv0, xm_psh] at *
              exact nx
            · have c' : ¬ g_lack (tK M) (tA M 39) p ≤ nI 0 := by assumption
              rw [if_neg c'] at nx
              clear hX hG hQ
              simp (disch := omega) only [xl_n, xl_m, nI_dec, nI_sb, xl_0, xl_1, tW_i, t_bn0, t_bn1, Classical.not_not, t_lt, nI_add, nI_1, pk_mul, nI_clamp, t_si, nI_eq, nI_leI, nM_ne, nM_ne, xm_set, xm_lv0, xm_psh] at *
              exact nx
        have hgJ := hg
        repeat' (first
          | ((with_reducible refine @And.intro (vp_in _ _) _ ?_ ?_); (· (first | with_reducible assumption | ((with_reducible refine t_vin ?_); decide) | ((with_reducible refine vp_in_nI ?_ ?_) <;> first | omega | decide) | (simp (disch := omega) only [xl_n, xl_m, nI_dec, nI_sb, nI_add, pk_mul]; (with_reducible refine vp_in_nI ?_ ?_) <;> first | omega | decide))); (conv => whnf))
          | (refine And.intro (by first | with_reducible assumption | exact (show tL _ = _ from rfl) | decide) ?_; (conv => whnf))
          | ((with_reducible refine @And.intro (_ = _) _ ?_ ?_); (· rfl); (conv => whnf))
          | ((with_reducible refine @And.intro (@LE.le Nat _ _ _) _ ?_ ?_); (· (first | exact Nat.zero_le _ | exact Nat.le_of_ble_eq_true rfl | omega)); (conv => whnf))
          | ((with_reducible refine @And.intro (@LT.lt Nat _ _ _) _ ?_ ?_); (· omega); (conv => whnf))
          | ((with_reducible refine @And.intro (∃ _, _ = _) _ ?_ ?_); (· exact ⟨_, rfl⟩); (conv => whnf))
          | ((with_reducible refine @And.intro (_ ∨ _) _ ?_ ?_); (· (first | exact Or.inl rfl | exact Or.inr rfl | exact t_b01 _ | assumption)); (conv => whnf))
          | ((with_reducible refine @And.intro (¬ (_ = _)) _ ?_ ?_); (· first | assumption | (with_reducible assumption)); (conv => whnf))
          | (refine hX _ _ _ _ _ _ ?_; (conv => whnf); fail_if_success show False)
          | (rw [t_si]; (conv => whnf))
          | (refine ⟨_, rfl, ?_⟩; (conv => whnf))
          | (refine ⟨_, _, rfl, ?_⟩; (conv => whnf))
          | (refine ⟨_, _, _, rfl, ?_⟩; (conv => whnf))
          | (refine ⟨_, _, _, _, rfl, ?_⟩; (conv => whnf))
          | (rw [e1]; (conv => whnf))
          | (rw [e2]; (conv => whnf))
          | (rw [e3]; (conv => whnf))
          | (refine And.intro (fun c => ?_) (fun c => ?_) <;> (first | (exact absurd c (by decide +kernel)) | (conv => whnf)))
          | fail)
        intro M hM h0M hAM
        rw [hT] at hAM
        have h0 := h0M.trans h01
        have hgM := hM.good hg
        have hokM := hgM.1
        have eK : tK M = tK J := hM.same.K hg
        (conv => whnf)
        rcases (show w = 0 ∨ w = 1 ∨ w = 2 ∨ w = 3 by omega) with rfl | rfl | rfl | rfl
        · clear l1 l2 stop
          repeat' (first
            | ((with_reducible refine @And.intro (vp_in _ _) _ ?_ ?_); (· (first | with_reducible assumption | ((with_reducible refine t_vin ?_); decide) | ((with_reducible refine vp_in_nI ?_ ?_) <;> first | omega | decide) | (simp (disch := omega) only [xl_n, xl_m, nI_dec, nI_sb, nI_add, pk_mul]; (with_reducible refine vp_in_nI ?_ ?_) <;> first | omega | decide))); (conv => whnf))
            | (refine And.intro (by first | with_reducible assumption | exact (show tL _ = _ from rfl) | decide) ?_; (conv => whnf))
            | ((with_reducible refine @And.intro (_ = _) _ ?_ ?_); (· rfl); (conv => whnf))
            | ((with_reducible refine @And.intro (@LE.le Nat _ _ _) _ ?_ ?_); (· (first | exact Nat.zero_le _ | exact Nat.le_of_ble_eq_true rfl | omega)); (conv => whnf))
            | ((with_reducible refine @And.intro (@LT.lt Nat _ _ _) _ ?_ ?_); (· omega); (conv => whnf))
            | ((with_reducible refine @And.intro (∃ _, _ = _) _ ?_ ?_); (· exact ⟨_, rfl⟩); (conv => whnf))
            | ((with_reducible refine @And.intro (_ ∨ _) _ ?_ ?_); (· (first | exact Or.inl rfl | exact Or.inr rfl | exact t_b01 _ | assumption)); (conv => whnf))
            | ((with_reducible refine @And.intro (¬ (_ = _)) _ ?_ ?_); (· first | assumption | (with_reducible assumption)); (conv => whnf))
            | (refine hX _ _ _ _ _ _ ?_; (conv => whnf); fail_if_success show False)
            | (rw [t_si]; (conv => whnf))
            | (refine ⟨_, rfl, ?_⟩; (conv => whnf))
            | (refine ⟨_, _, rfl, ?_⟩; (conv => whnf))
            | (refine ⟨_, _, _, rfl, ?_⟩; (conv => whnf))
            | (refine ⟨_, _, _, _, rfl, ?_⟩; (conv => whnf))
            | (refine And.intro (fun c => ?_) (fun c => ?_) <;> (first | (exact absurd c (by decide +kernel)) | (conv => whnf)))
            | fail)
          refine t_ask hQ hg hM h0 ?_
          rw [eK, hAM]
          rfl
        · have := l1 rfl 0 (Nat.zero_le _) M hM h0 hAM
          clear l1 l2 stop
          repeat' (first
            | ((with_reducible refine @And.intro (vp_in _ _) _ ?_ ?_); (· (first | with_reducible assumption | ((with_reducible refine t_vin ?_); decide) | ((with_reducible refine vp_in_nI ?_ ?_) <;> first | omega | decide) | (simp (disch := omega) only [xl_n, xl_m, nI_dec, nI_sb, nI_add, pk_mul]; (with_reducible refine vp_in_nI ?_ ?_) <;> first | omega | decide))); (conv => whnf))
            | (refine And.intro (by first | with_reducible assumption | exact (show tL _ = _ from rfl) | decide) ?_; (conv => whnf))
            | ((with_reducible refine @And.intro (_ = _) _ ?_ ?_); (· rfl); (conv => whnf))
            | ((with_reducible refine @And.intro (@LE.le Nat _ _ _) _ ?_ ?_); (· (first | exact Nat.zero_le _ | exact Nat.le_of_ble_eq_true rfl | omega)); (conv => whnf))
            | ((with_reducible refine @And.intro (@LT.lt Nat _ _ _) _ ?_ ?_); (· omega); (conv => whnf))
            | ((with_reducible refine @And.intro (∃ _, _ = _) _ ?_ ?_); (· exact ⟨_, rfl⟩); (conv => whnf))
            | ((with_reducible refine @And.intro (_ ∨ _) _ ?_ ?_); (· (first | exact Or.inl rfl | exact Or.inr rfl | exact t_b01 _ | assumption)); (conv => whnf))
            | ((with_reducible refine @And.intro (¬ (_ = _)) _ ?_ ?_); (· first | assumption | (with_reducible assumption)); (conv => whnf))
            | (refine hX _ _ _ _ _ _ ?_; (conv => whnf); fail_if_success show False)
            | (rw [t_si]; (conv => whnf))
            | (refine ⟨_, rfl, ?_⟩; (conv => whnf))
            | (refine ⟨_, _, rfl, ?_⟩; (conv => whnf))
            | (refine ⟨_, _, _, rfl, ?_⟩; (conv => whnf))
            | (refine ⟨_, _, _, _, rfl, ?_⟩; (conv => whnf))
            | (refine And.intro (fun c => ?_) (fun c => ?_) <;> (first | (exact absurd c (by decide +kernel)) | (conv => whnf)))
            | fail)
          exact this
        · have := l2 rfl 0 (Nat.zero_le _) M hM h0 hAM
          clear l1 l2 stop
          repeat' (first
            | ((with_reducible refine @And.intro (vp_in _ _) _ ?_ ?_); (· (first | with_reducible assumption | ((with_reducible refine t_vin ?_); decide) | ((with_reducible refine vp_in_nI ?_ ?_) <;> first | omega | decide) | (simp (disch := omega) only [xl_n, xl_m, nI_dec, nI_sb, nI_add, pk_mul]; (with_reducible refine vp_in_nI ?_ ?_) <;> first | omega | decide))); (conv => whnf))
            | (refine And.intro (by first | with_reducible assumption | exact (show tL _ = _ from rfl) | decide) ?_; (conv => whnf))
            | ((with_reducible refine @And.intro (_ = _) _ ?_ ?_); (· rfl); (conv => whnf))
            | ((with_reducible refine @And.intro (@LE.le Nat _ _ _) _ ?_ ?_); (· (first | exact Nat.zero_le _ | exact Nat.le_of_ble_eq_true rfl | omega)); (conv => whnf))
            | ((with_reducible refine @And.intro (@LT.lt Nat _ _ _) _ ?_ ?_); (· omega); (conv => whnf))
            | ((with_reducible refine @And.intro (∃ _, _ = _) _ ?_ ?_); (· exact ⟨_, rfl⟩); (conv => whnf))
            | ((with_reducible refine @And.intro (_ ∨ _) _ ?_ ?_); (· (first | exact Or.inl rfl | exact Or.inr rfl | exact t_b01 _ | assumption)); (conv => whnf))
            | ((with_reducible refine @And.intro (¬ (_ = _)) _ ?_ ?_); (· first | assumption | (with_reducible assumption)); (conv => whnf))
            | (refine hX _ _ _ _ _ _ ?_; (conv => whnf); fail_if_success show False)
            | (rw [t_si]; (conv => whnf))
            | (refine ⟨_, rfl, ?_⟩; (conv => whnf))
            | (refine ⟨_, _, rfl, ?_⟩; (conv => whnf))
            | (refine ⟨_, _, _, rfl, ?_⟩; (conv => whnf))
            | (refine ⟨_, _, _, _, rfl, ?_⟩; (conv => whnf))
            | (refine And.intro (fun c => ?_) (fun c => ?_) <;> (first | (exact absurd c (by decide +kernel)) | (conv => whnf)))
            | fail)
          have e96 : X 96 [some (.ref 0), some (.int seed), some (.int (nI q)), some (.int (nI n)), some (.int (nI 2)), some (.int (nI 0)), some (.int (nI 0))] [] (tW M) 0 0 := by
            refine hG _ _ _ _ _ _ ?_
            (conv => whnf)
            repeat' (first
              | ((with_reducible refine @And.intro (vp_in _ _) _ ?_ ?_); (· (first | with_reducible assumption | ((with_reducible refine t_vin ?_); decide) | ((with_reducible refine vp_in_nI ?_ ?_) <;> first | omega | decide) | (simp (disch := omega) only [xl_n, xl_m, nI_dec, nI_sb, nI_add, pk_mul]; (with_reducible refine vp_in_nI ?_ ?_) <;> first | omega | decide))); (conv => whnf))
              | (refine And.intro (by first | with_reducible assumption | exact (show tL _ = _ from rfl) | decide) ?_; (conv => whnf))
              | ((with_reducible refine @And.intro (_ = _) _ ?_ ?_); (· rfl); (conv => whnf))
              | ((with_reducible refine @And.intro (@LE.le Nat _ _ _) _ ?_ ?_); (· (first | exact Nat.zero_le _ | exact Nat.le_of_ble_eq_true rfl | omega)); (conv => whnf))
              | ((with_reducible refine @And.intro (@LT.lt Nat _ _ _) _ ?_ ?_); (· omega); (conv => whnf))
              | ((with_reducible refine @And.intro (∃ _, _ = _) _ ?_ ?_); (· exact ⟨_, rfl⟩); (conv => whnf))
              | ((with_reducible refine @And.intro (_ ∨ _) _ ?_ ?_); (· (first | exact Or.inl rfl | exact Or.inr rfl | exact t_b01 _ | assumption)); (conv => whnf))
              | ((with_reducible refine @And.intro (¬ (_ = _)) _ ?_ ?_); (· first | assumption | (with_reducible assumption)); (conv => whnf))
              | (refine hX _ _ _ _ _ _ ?_; (conv => whnf); fail_if_success show False)
              | (rw [t_si]; (conv => whnf))
              | (refine ⟨_, rfl, ?_⟩; (conv => whnf))
              | (refine ⟨_, _, rfl, ?_⟩; (conv => whnf))
              | (refine ⟨_, _, _, rfl, ?_⟩; (conv => whnf))
              | (refine ⟨_, _, _, _, rfl, ?_⟩; (conv => whnf))
              | (refine And.intro (fun c => ?_) (fun c => ?_) <;> (first | (exact absurd c (by decide +kernel)) | (conv => whnf)))
              | fail)
            · exact this
            · exact this
          exact e96
        · clear l1 l2 stop
          repeat' (first
            | ((with_reducible refine @And.intro (vp_in _ _) _ ?_ ?_); (· (first | with_reducible assumption | ((with_reducible refine t_vin ?_); decide) | ((with_reducible refine vp_in_nI ?_ ?_) <;> first | omega | decide) | (simp (disch := omega) only [xl_n, xl_m, nI_dec, nI_sb, nI_add, pk_mul]; (with_reducible refine vp_in_nI ?_ ?_) <;> first | omega | decide))); (conv => whnf))
            | (refine And.intro (by first | with_reducible assumption | exact (show tL _ = _ from rfl) | decide) ?_; (conv => whnf))
            | ((with_reducible refine @And.intro (_ = _) _ ?_ ?_); (· rfl); (conv => whnf))
            | ((with_reducible refine @And.intro (@LE.le Nat _ _ _) _ ?_ ?_); (· (first | exact Nat.zero_le _ | exact Nat.le_of_ble_eq_true rfl | omega)); (conv => whnf))
            | ((with_reducible refine @And.intro (@LT.lt Nat _ _ _) _ ?_ ?_); (· omega); (conv => whnf))
            | ((with_reducible refine @And.intro (∃ _, _ = _) _ ?_ ?_); (· exact ⟨_, rfl⟩); (conv => whnf))
            | ((with_reducible refine @And.intro (_ ∨ _) _ ?_ ?_); (· (first | exact Or.inl rfl | exact Or.inr rfl | exact t_b01 _ | assumption)); (conv => whnf))
            | ((with_reducible refine @And.intro (¬ (_ = _)) _ ?_ ?_); (· first | assumption | (with_reducible assumption)); (conv => whnf))
            | (refine hX _ _ _ _ _ _ ?_; (conv => whnf); fail_if_success show False)
            | (rw [t_si]; (conv => whnf))
            | (refine ⟨_, rfl, ?_⟩; (conv => whnf))
            | (refine ⟨_, _, rfl, ?_⟩; (conv => whnf))
            | (refine ⟨_, _, _, rfl, ?_⟩; (conv => whnf))
            | (refine ⟨_, _, _, _, rfl, ?_⟩; (conv => whnf))
            | (refine And.intro (fun c => ?_) (fun c => ?_) <;> (first | (exact absurd c (by decide +kernel)) | (conv => whnf)))
            | fail)
          refine t_ask hQ hg hM h0 ?_
          rw [eK, hAM]
          rfl
      · rw [q_fates] at hQ
        repeat' (first
          | ((with_reducible refine @And.intro (vp_in _ _) _ ?_ ?_); (· (first | with_reducible assumption | ((with_reducible refine t_vin ?_); decide) | ((with_reducible refine vp_in_nI ?_ ?_) <;> first | omega | decide) | (simp (disch := omega) only [xl_n, xl_m, nI_dec, nI_sb, nI_add, pk_mul]; (with_reducible refine vp_in_nI ?_ ?_) <;> first | omega | decide))); (conv => whnf))
          | (refine And.intro (by first | with_reducible assumption | exact (show tL _ = _ from rfl) | decide) ?_; (conv => whnf))
          | ((with_reducible refine @And.intro (_ = _) _ ?_ ?_); (· rfl); (conv => whnf))
          | ((with_reducible refine @And.intro (@LE.le Nat _ _ _) _ ?_ ?_); (· (first | exact Nat.zero_le _ | exact Nat.le_of_ble_eq_true rfl | omega)); (conv => whnf))
          | ((with_reducible refine @And.intro (@LT.lt Nat _ _ _) _ ?_ ?_); (· omega); (conv => whnf))
          | ((with_reducible refine @And.intro (∃ _, _ = _) _ ?_ ?_); (· exact ⟨_, rfl⟩); (conv => whnf))
          | ((with_reducible refine @And.intro (_ ∨ _) _ ?_ ?_); (· (first | exact Or.inl rfl | exact Or.inr rfl | exact t_b01 _ | assumption)); (conv => whnf))
          | ((with_reducible refine @And.intro (¬ (_ = _)) _ ?_ ?_); (· first | assumption | (with_reducible assumption)); (conv => whnf))
          | (refine hX _ _ _ _ _ _ ?_; (conv => whnf); fail_if_success show False)
          | (rw [t_si]; (conv => whnf))
          | (refine ⟨_, rfl, ?_⟩; (conv => whnf))
          | (refine ⟨_, _, rfl, ?_⟩; (conv => whnf))
          | (refine ⟨_, _, _, rfl, ?_⟩; (conv => whnf))
          | (refine ⟨_, _, _, _, rfl, ?_⟩; (conv => whnf))
          | (rw [e1]; (conv => whnf))
          | (rw [e2]; (conv => whnf))
          | (rw [e3]; (conv => whnf))
          | (refine And.intro (fun c => ?_) (fun c => ?_) <;> (first | (exact absurd c (by decide +kernel)) | (conv => whnf)))
          | fail)
        exact t_ref' hQ hg h01 (by simp [f1, f2, f3]) (by decide) rfl rfl
    · rw [q_fates] at hQ
      repeat' (first
        | ((with_reducible refine @And.intro (vp_in _ _) _ ?_ ?_); (· (first | with_reducible assumption | ((with_reducible refine t_vin ?_); decide) | ((with_reducible refine vp_in_nI ?_ ?_) <;> first | omega | decide) | (simp (disch := omega) only [xl_n, xl_m, nI_dec, nI_sb, nI_add, pk_mul]; (with_reducible refine vp_in_nI ?_ ?_) <;> first | omega | decide))); (conv => whnf))
        | (refine And.intro (by first | with_reducible assumption | exact (show tL _ = _ from rfl) | decide) ?_; (conv => whnf))
        | ((with_reducible refine @And.intro (_ = _) _ ?_ ?_); (· rfl); (conv => whnf))
        | ((with_reducible refine @And.intro (@LE.le Nat _ _ _) _ ?_ ?_); (· (first | exact Nat.zero_le _ | exact Nat.le_of_ble_eq_true rfl | omega)); (conv => whnf))
        | ((with_reducible refine @And.intro (@LT.lt Nat _ _ _) _ ?_ ?_); (· omega); (conv => whnf))
        | ((with_reducible refine @And.intro (∃ _, _ = _) _ ?_ ?_); (· exact ⟨_, rfl⟩); (conv => whnf))
        | ((with_reducible refine @And.intro (_ ∨ _) _ ?_ ?_); (· (first | exact Or.inl rfl | exact Or.inr rfl | exact t_b01 _ | assumption)); (conv => whnf))
        | ((with_reducible refine @And.intro (¬ (_ = _)) _ ?_ ?_); (· first | assumption | (with_reducible assumption)); (conv => whnf))
        | (refine hX _ _ _ _ _ _ ?_; (conv => whnf); fail_if_success show False)
        | (rw [t_si]; (conv => whnf))
        | (refine ⟨_, rfl, ?_⟩; (conv => whnf))
        | (refine ⟨_, _, rfl, ?_⟩; (conv => whnf))
        | (refine ⟨_, _, _, rfl, ?_⟩; (conv => whnf))
        | (refine ⟨_, _, _, _, rfl, ?_⟩; (conv => whnf))
        | (rw [e1]; (conv => whnf))
        | (rw [e2]; (conv => whnf))
        | (refine And.intro (fun c => ?_) (fun c => ?_) <;> (first | (exact absurd c (by decide +kernel)) | (conv => whnf)))
        | fail)
      exact t_ref' hQ hg h01 (by simp [f1, f2]) (by decide) rfl rfl
  · rw [q_fates] at hQ
    repeat' (first
      | ((with_reducible refine @And.intro (vp_in _ _) _ ?_ ?_); (· (first | with_reducible assumption | ((with_reducible refine t_vin ?_); decide) | ((with_reducible refine vp_in_nI ?_ ?_) <;> first | omega | decide) | (simp (disch := omega) only [xl_n, xl_m, nI_dec, nI_sb, nI_add, pk_mul]; (with_reducible refine vp_in_nI ?_ ?_) <;> first | omega | decide))); (conv => whnf))
      | (refine And.intro (by first | with_reducible assumption | exact (show tL _ = _ from rfl) | decide) ?_; (conv => whnf))
      | ((with_reducible refine @And.intro (_ = _) _ ?_ ?_); (· rfl); (conv => whnf))
      | ((with_reducible refine @And.intro (@LE.le Nat _ _ _) _ ?_ ?_); (· (first | exact Nat.zero_le _ | exact Nat.le_of_ble_eq_true rfl | omega)); (conv => whnf))
      | ((with_reducible refine @And.intro (@LT.lt Nat _ _ _) _ ?_ ?_); (· omega); (conv => whnf))
      | ((with_reducible refine @And.intro (∃ _, _ = _) _ ?_ ?_); (· exact ⟨_, rfl⟩); (conv => whnf))
      | ((with_reducible refine @And.intro (_ ∨ _) _ ?_ ?_); (· (first | exact Or.inl rfl | exact Or.inr rfl | exact t_b01 _ | assumption)); (conv => whnf))
      | ((with_reducible refine @And.intro (¬ (_ = _)) _ ?_ ?_); (· first | assumption | (with_reducible assumption)); (conv => whnf))
      | (refine hX _ _ _ _ _ _ ?_; (conv => whnf); fail_if_success show False)
      | (rw [t_si]; (conv => whnf))
      | (refine ⟨_, rfl, ?_⟩; (conv => whnf))
      | (refine ⟨_, _, rfl, ?_⟩; (conv => whnf))
      | (refine ⟨_, _, _, rfl, ?_⟩; (conv => whnf))
      | (refine ⟨_, _, _, _, rfl, ?_⟩; (conv => whnf))
      | (rw [e1]; (conv => whnf))
      | (refine And.intro (fun c => ?_) (fun c => ?_) <;> (first | (exact absurd c (by decide +kernel)) | (conv => whnf)))
      | fail)
    exact t_ref' hQ hg h01 (by simp [f1]) (by decide) rfl rfl
theorem ct_X11_fates {Iv : xI} (hI : xm_good Iv) : xm_Ct Iv yX11_fates (ws_ yX11_fates cX11_fates 7 (some .int)) 25 0 0 S_X11_fates := xm_enter (rt := 0) (init := false) (by decide +kernel) rfl (fun h => by cases h) (Or.inl ⟨rfl, rfl⟩) (oX11_fates hI) body_X11_fates
theorem cv_X11_fates {Iv : xI} {own : String} {cc : ByteArray} {fr pc idx : Nat} (hI : xm_good Iv) (hdg : decode cc pc = .ok (.invokevirtual idx, 3)) (hl : xm_ml own idx yX11_fates) (hfr : 25 < fr) : xm_CallOK Iv own cc fr pc (pc + 3) 5 0 0 (xm_this 8 S_X11_fates) := xm_callV 8 hI (ct_X11_fates hI) hdg hl q2597 q2598 q145 q2599 rfl rfl (by decide +kernel) hfr (by decide)
def g_spanN (G : gG) (seed q : Int32) (n : Nat) (k : Nat) : Int32 := t_ones (g_alive (gGK G) (g_fated G (seed + nI k) q n))
def g_spanL (G : gG) (seed q : Int32) (n m : Nat) : Int32 := t_fold m (fun k b => if b = nM then g_spanN G seed q n k else t_less b (g_spanN G seed q n k)) nM
def g_spanM (G : gG) (seed q : Int32) (n m : Nat) : Int32 := t_fold m (fun k b => t_more b (g_spanN G seed q n k)) (nI 0)
def g_spanI (G : gG) (seed q : Int32) (n h m : Nat) : Int32 := t_sum m fun k => if g_al (gGK G) (g_fated G (seed + nI k) q n) h = true then nI 1 else nI 0
def q_span (G : gG) (seed many q n what h : Int32) : gR := g_ck G (t_in many (nI 1) (nI 20) && t_in q (nI 0) (nI 16) && t_in n (nI 1) (nI 40) && t_in what (nI 0) (nI 2) && g_isH G h) (nI 1) 1 (g_says G (if what = nI 0 then g_spanL G seed q n.toNatClampNeg many.toNatClampNeg else if what = nI 1 then g_spanM G seed q n.toNatClampNeg many.toNatClampNeg else g_spanI G seed q n.toNatClampNeg h.toNatClampNeg many.toNatClampNeg))
abbrev bX11_span_0 : List xE := [(.aload_n 0, 1, 0, 0, 0), (.iconst 0, 2, 0, 0, 0), (.putfield 134, 5, 8, 0, 0), (.aload_n 0, 6, 0, 0, 0), (.iload_n 2, 7, 0, 0, 0), (.iconst 1, 8, 0, 0, 0), (.bipush 20, 10, 0, 0, 0), (.invokestatic 168, 13, 0, 0, 9), (.ifCond .eq 43, 16, 0, 56, 0), (.iload_n 3, 17, 0, 0, 0), (.iconst 0, 18, 0, 0, 0), (.bipush 16, 20, 0, 0, 0), (.invokestatic 168, 23, 0, 0, 9), (.ifCond .eq 33, 26, 0, 56, 0), (.iload 4, 28, 0, 0, 0), (.iconst 1, 29, 0, 0, 0), (.bipush 40, 31, 0, 0, 0), (.invokestatic 168, 34, 0, 0, 9), (.ifCond .eq 22, 37, 0, 56, 0), (.iload 5, 39, 0, 0, 0), (.iconst 0, 40, 0, 0, 0), (.iconst 2, 41, 0, 0, 0), (.invokestatic 168, 44, 0, 0, 9), (.ifCond .eq 12, 47, 0, 56, 0), (.aload_n 0, 48, 0, 0, 0), (.iload 6, 50, 0, 0, 0), (.invokevirtual 331, 53, 0, 1, 9), (.ifCond .ne 7, 56, 0, 60, 0)]
abbrev bX11_span_56 : List xE := [(.iconst 1, 57, 0, 0, 0), (.goto 4, 60, 0, 61, 0)]
abbrev bX11_span_60 : List xE := [(.iconst 0, 61, 0, 0, 0)]
abbrev bX11_span_61 : List xE := [(.iconst 1, 62, 0, 0, 0), (.iconst 1, 63, 0, 0, 0), (.invokevirtual 249, 66, 0, 2, 9), (.ifCond .eq 5, 69, 0, 71, 0), (.iconst 0, 70, 0, 0, 0), (.ireturn, 71, 0, 0, 0)]
abbrev bX11_span_71 : List xE := [(.iconst (-1), 72, 0, 0, 0), (.istore 7, 74, 0, 0, 0), (.iconst 0, 75, 0, 0, 0), (.istore 8, 77, 0, 0, 0), (.iconst 0, 78, 0, 0, 0), (.istore 9, 80, 0, 0, 0), (.iconst 0, 81, 0, 0, 0), (.istore 10, 83, 0, 0, 0)]
abbrev bX11_span_83 : List xE := [(.iload 10, 85, 0, 0, 0), (.iload_n 2, 86, 0, 0, 0), (.if_icmp .ge 85, 89, 0, 171, 0), (.aload_n 0, 90, 0, 0, 0), (.iload_n 1, 91, 0, 0, 0), (.iload 10, 93, 0, 0, 0), (.iadd, 94, 0, 0, 0), (.iload_n 3, 95, 0, 0, 0), (.iload 4, 97, 0, 0, 0), (.invokevirtual 442, 100, 0, 3, 9), (.aload_n 0, 101, 0, 0, 0), (.aload_n 0, 102, 0, 0, 0), (.getfield 100, 105, 8, 39, 1), (.invokevirtual 324, 108, 0, 4, 9), (.invokestatic 246, 111, 0, 5, 9), (.istore 11, 113, 0, 0, 0), (.iload 7, 115, 0, 0, 0), (.iconst (-1), 116, 0, 0, 0), (.if_icmp .ne 8, 119, 0, 124, 0), (.iload 11, 121, 0, 0, 0), (.goto 10, 124, 0, 131, 0)]
abbrev bX11_span_124 : List xE := [(.iload 7, 126, 0, 0, 0), (.iload 11, 128, 0, 0, 0), (.invokestatic 229, 131, 0, 6, 9)]
abbrev bX11_span_131 : List xE := [(.istore 7, 133, 0, 0, 0), (.iload 8, 135, 0, 0, 0), (.iload 11, 137, 0, 0, 0), (.invokestatic 313, 140, 0, 7, 9), (.istore 8, 142, 0, 0, 0), (.iload 9, 144, 0, 0, 0), (.aload_n 0, 145, 0, 0, 0), (.aload_n 0, 146, 0, 0, 0), (.getfield 100, 149, 8, 39, 1), (.iload 6, 151, 0, 0, 0), (.invokevirtual 320, 154, 0, 8, 9), (.ifCond .eq 7, 157, 0, 161, 0), (.iconst 1, 158, 0, 0, 0), (.goto 4, 161, 0, 162, 0)]
abbrev bX11_span_161 : List xE := [(.iconst 0, 162, 0, 0, 0)]
abbrev bX11_span_162 : List xE := [(.iadd, 163, 0, 0, 0), (.istore 9, 165, 0, 0, 0), (.iinc 10 1, 168, 0, 0, 0), (.goto (-85), 171, 0, 83, 0)]
abbrev bX11_span_171 : List xE := [(.iload 5, 173, 0, 0, 0), (.ifCond .ne 8, 176, 0, 181, 0), (.iload 7, 178, 0, 0, 0), (.goto 16, 181, 0, 194, 0)]
abbrev bX11_span_181 : List xE := [(.iload 5, 183, 0, 0, 0), (.iconst 1, 184, 0, 0, 0), (.if_icmp .ne 8, 187, 0, 192, 0), (.iload 8, 189, 0, 0, 0), (.goto 5, 192, 0, 194, 0)]
abbrev bX11_span_192 : List xE := [(.iload 9, 194, 0, 0, 0)]
abbrev bX11_span_194 : List xE := [(.ireturn, 195, 0, 0, 0)]
abbrev kX11_span : List (Nat × List xE) := [(0, bX11_span_0), (56, bX11_span_56), (60, bX11_span_60), (61, bX11_span_61), (71, bX11_span_71), (83, bX11_span_83), (124, bX11_span_124), (131, bX11_span_131), (161, bX11_span_161), (162, bX11_span_162), (171, bX11_span_171), (181, bX11_span_181), (192, bX11_span_192), (194, bX11_span_194)]
abbrev lX11_span : List (Nat × Nat × Nat × xS) := [(3, 0, 0, S_X11_in), (2, 0, 0, xm_this 8 S_X11_isHand), (4, 0, 0, xm_this 8 S_X11_bad), (4, 0, 0, xm_this 8 S_X11_fatesBy), (2, 0, 0, xm_this 8 S_X11_aliveOf), (1, 0, 0, S_X11_ones), (2, 0, 0, S_X11_less), (2, 0, 0, S_X11_more), (3, 0, 0, xm_this 8 S_X11_isAlive)]
theorem oX11_span_0 {Iv : xI} (hI : xm_good Iv)  : xm_okb Iv RX11 cX11_span false 8 lX11_span bX11_span_0 0 := xo_0 dX11_span_0 rfl trivial (xo_0 dX11_span_1 rfl trivial (xo_0 dX11_span_2 rfl (xm_fp_of (xm_fg_of (Or.inl q1955) (by decide) rfl (by decide) rfl rfl (Or.inl rfl) rfl) (by decide) rfl (Or.inl ⟨rfl, rfl⟩) rfl) (xo_0 dX11_span_5 rfl trivial (xo_0 dX11_span_6 rfl trivial (xo_0 dX11_span_7 rfl trivial (xo_0 dX11_span_8 rfl (xo_bipush (by decide +kernel)) (xo_c rfl (cv_X11_in hI dX11_span_10 (Or.inl q1942) (by decide)) (xo_0 dX11_span_13 rfl rfl (xo_0 dX11_span_16 rfl trivial (xo_0 dX11_span_17 rfl trivial (xo_0 dX11_span_18 rfl (xo_bipush (by decide +kernel)) (xo_c rfl (cv_X11_in hI dX11_span_20 (Or.inl q1942) (by decide)) (xo_0 dX11_span_23 rfl rfl (xo_0 dX11_span_26 rfl trivial (xo_0 dX11_span_28 rfl trivial (xo_0 dX11_span_29 rfl (xo_bipush (by decide +kernel)) (xo_c rfl (cv_X11_in hI dX11_span_31 (Or.inl q1942) (by decide)) (xo_0 dX11_span_34 rfl rfl (xo_0 dX11_span_37 rfl trivial (xo_0 dX11_span_39 rfl trivial (xo_0 dX11_span_40 rfl trivial (xo_c rfl (cv_X11_in hI dX11_span_41 (Or.inl q1942) (by decide)) (xo_0 dX11_span_44 rfl rfl (xo_0 dX11_span_47 rfl trivial (xo_0 dX11_span_48 rfl trivial (xo_c rfl (cv_X11_isHand hI dX11_span_50 (Or.inl q2304) (by decide)) (xo_0 dX11_span_53 rfl rfl (xo_n))))))))))))))))))))))))))))
theorem oX11_span_56 {Iv : xI} (hI : xm_good Iv)  : xm_okb Iv RX11 cX11_span false 8 lX11_span bX11_span_56 56 := xo_0 dX11_span_56 rfl trivial (xo_0 dX11_span_57 rfl rfl (xo_n))
theorem oX11_span_60 {Iv : xI} (hI : xm_good Iv)  : xm_okb Iv RX11 cX11_span false 8 lX11_span bX11_span_60 60 := xo_0 dX11_span_60 rfl trivial (xo_n)
theorem oX11_span_61 {Iv : xI} (hI : xm_good Iv)  : xm_okb Iv RX11 cX11_span false 8 lX11_span bX11_span_61 61 := xo_0 dX11_span_61 rfl trivial (xo_0 dX11_span_62 rfl trivial (xo_c rfl (cv_X11_bad hI dX11_span_63 (Or.inl q2137) (by decide)) (xo_0 dX11_span_66 rfl rfl (xo_0 dX11_span_69 rfl trivial (xo_0 dX11_span_70 rfl trivial (xo_n))))))
theorem oX11_span_71 {Iv : xI} (hI : xm_good Iv)  : xm_okb Iv RX11 cX11_span false 8 lX11_span bX11_span_71 71 := xo_0 dX11_span_71 rfl trivial (xo_0 dX11_span_72 rfl trivial (xo_0 dX11_span_74 rfl trivial (xo_0 dX11_span_75 rfl trivial (xo_0 dX11_span_77 rfl trivial (xo_0 dX11_span_78 rfl trivial (xo_0 dX11_span_80 rfl trivial (xo_0 dX11_span_81 rfl trivial (xo_n))))))))
theorem oX11_span_83 {Iv : xI} (hI : xm_good Iv)  : xm_okb Iv RX11 cX11_span false 8 lX11_span bX11_span_83 83 := xo_0 dX11_span_83 rfl trivial (xo_0 dX11_span_85 rfl trivial (xo_0 dX11_span_86 rfl rfl (xo_0 dX11_span_89 rfl trivial (xo_0 dX11_span_90 rfl trivial (xo_0 dX11_span_91 rfl trivial (xo_0 dX11_span_93 rfl trivial (xo_0 dX11_span_94 rfl trivial (xo_0 dX11_span_95 rfl trivial (xo_c rfl (cv_X11_fatesBy hI dX11_span_97 (Or.inl q2600) (by decide)) (xo_0 dX11_span_100 rfl trivial (xo_0 dX11_span_101 rfl trivial (xo_1 dX11_span_102 rfl (xm_fg_of (Or.inl q1994) (by decide) rfl (by decide) rfl rfl (Or.inl rfl) rfl) (xo_c rfl (cv_X11_aliveOf hI dX11_span_105 (Or.inl q2288) (by decide)) (xo_c rfl (cv_X11_ones hI dX11_span_108 (Or.inl q2218) (by decide)) (xo_0 dX11_span_111 rfl trivial (xo_0 dX11_span_113 rfl trivial (xo_0 dX11_span_115 rfl trivial (xo_0 dX11_span_116 rfl rfl (xo_0 dX11_span_119 rfl trivial (xo_0 dX11_span_121 rfl rfl (xo_n)))))))))))))))))))))
theorem oX11_span_124 {Iv : xI} (hI : xm_good Iv)  : xm_okb Iv RX11 cX11_span false 8 lX11_span bX11_span_124 124 := xo_0 dX11_span_124 rfl trivial (xo_0 dX11_span_126 rfl trivial (xo_c rfl (cv_X11_less hI dX11_span_128 (Or.inl q2229) (by decide)) (xo_n)))
theorem oX11_span_131 {Iv : xI} (hI : xm_good Iv)  : xm_okb Iv RX11 cX11_span false 8 lX11_span bX11_span_131 131 := xo_0 dX11_span_131 rfl trivial (xo_0 dX11_span_133 rfl trivial (xo_0 dX11_span_135 rfl trivial (xo_c rfl (cv_X11_more hI dX11_span_137 (Or.inl q2312) (by decide)) (xo_0 dX11_span_140 rfl trivial (xo_0 dX11_span_142 rfl trivial (xo_0 dX11_span_144 rfl trivial (xo_0 dX11_span_145 rfl trivial (xo_1 dX11_span_146 rfl (xm_fg_of (Or.inl q1994) (by decide) rfl (by decide) rfl rfl (Or.inl rfl) rfl) (xo_0 dX11_span_149 rfl trivial (xo_c rfl (cv_X11_isAlive hI dX11_span_151 (Or.inl q2292) (by decide)) (xo_0 dX11_span_154 rfl rfl (xo_0 dX11_span_157 rfl trivial (xo_0 dX11_span_158 rfl rfl (xo_n))))))))))))))
theorem oX11_span_161 {Iv : xI} (hI : xm_good Iv)  : xm_okb Iv RX11 cX11_span false 8 lX11_span bX11_span_161 161 := xo_0 dX11_span_161 rfl trivial (xo_n)
theorem oX11_span_162 {Iv : xI} (hI : xm_good Iv)  : xm_okb Iv RX11 cX11_span false 8 lX11_span bX11_span_162 162 := xo_0 dX11_span_162 rfl trivial (xo_0 dX11_span_163 rfl trivial (xo_0 dX11_span_165 rfl trivial (xo_0 dX11_span_168 rfl rfl (xo_n))))
theorem oX11_span_171 {Iv : xI} (hI : xm_good Iv)  : xm_okb Iv RX11 cX11_span false 8 lX11_span bX11_span_171 171 := xo_0 dX11_span_171 rfl trivial (xo_0 dX11_span_173 rfl rfl (xo_0 dX11_span_176 rfl trivial (xo_0 dX11_span_178 rfl rfl (xo_n))))
theorem oX11_span_181 {Iv : xI} (hI : xm_good Iv)  : xm_okb Iv RX11 cX11_span false 8 lX11_span bX11_span_181 181 := xo_0 dX11_span_181 rfl trivial (xo_0 dX11_span_183 rfl trivial (xo_0 dX11_span_184 rfl rfl (xo_0 dX11_span_187 rfl trivial (xo_0 dX11_span_189 rfl rfl (xo_n)))))
theorem oX11_span_192 {Iv : xI} (hI : xm_good Iv)  : xm_okb Iv RX11 cX11_span false 8 lX11_span bX11_span_192 192 := xo_0 dX11_span_192 rfl trivial (xo_n)
theorem oX11_span_194 {Iv : xI} (hI : xm_good Iv)  : xm_okb Iv RX11 cX11_span false 8 lX11_span bX11_span_194 194 := xo_0 dX11_span_194 rfl trivial (xo_n)
theorem oX11_span {Iv : xI} (hI : xm_good Iv)  : ∀ q ∈ kX11_span, xm_okb Iv RX11 cX11_span false 8 lX11_span q.2 q.1 := by
  intro q hq
  simp only [List.mem_cons, List.not_mem_nil, or_false] at hq
  rcases hq with rfl | rfl | rfl | rfl | rfl | rfl | rfl | rfl | rfl | rfl | rfl | rfl | rfl | rfl
  · exact oX11_span_0 hI  
  · exact oX11_span_56 hI  
  · exact oX11_span_60 hI  
  · exact oX11_span_61 hI  
  · exact oX11_span_71 hI  
  · exact oX11_span_83 hI  
  · exact oX11_span_124 hI  
  · exact oX11_span_131 hI  
  · exact oX11_span_161 hI  
  · exact oX11_span_162 hI  
  · exact oX11_span_171 hI  
  · exact oX11_span_181 hI  
  · exact oX11_span_192 hI  
  · exact oX11_span_194 hI  
def S_X11_span : xS := tU fun as I Q => ∃ seed many q n what h, as = [.ref 0, .int seed, .int many, .int q, .int n, .int what, .int h] ∧ t_good I ∧ t_P Q (q_span (tG I) seed many q n what h)
theorem body_X11_span : xm_Body 12 0 0 0 [] lX11_span kX11_span S_X11_span := by
  intro X avs w Q QX hX0 hS
  have hG := xm_go [] hX0
  have hX := xm_go [83] hX0
  clear hX0
  obtain ⟨I, rfl, seed, many, q, n, what, h, rfl, hg, hQ⟩ := hS
  refine ⟨rfl, ?_⟩
  repeat' (first
    | ((with_reducible refine @And.intro (vp_in _ _) _ ?_ ?_); (· (first | with_reducible assumption | ((with_reducible refine t_vin ?_); decide) | ((with_reducible refine vp_in_nI ?_ ?_) <;> first | omega | decide) | (simp (disch := omega) only [xl_n, xl_m, nI_dec, nI_sb, nI_add, pk_mul]; (with_reducible refine vp_in_nI ?_ ?_) <;> first | omega | decide))); (conv => whnf))
    | (refine And.intro (by first | with_reducible assumption | exact (show tL _ = _ from rfl) | decide) ?_; (conv => whnf))
    | ((with_reducible refine @And.intro (_ = _) _ ?_ ?_); (· rfl); (conv => whnf))
    | ((with_reducible refine @And.intro (@LE.le Nat _ _ _) _ ?_ ?_); (· (first | exact Nat.zero_le _ | exact Nat.le_of_ble_eq_true rfl | omega)); (conv => whnf))
    | ((with_reducible refine @And.intro (@LT.lt Nat _ _ _) _ ?_ ?_); (· omega); (conv => whnf))
    | ((with_reducible refine @And.intro (∃ _, _ = _) _ ?_ ?_); (· exact ⟨_, rfl⟩); (conv => whnf))
    | ((with_reducible refine @And.intro (_ ∨ _) _ ?_ ?_); (· (first | exact Or.inl rfl | exact Or.inr rfl | exact t_b01 _ | assumption)); (conv => whnf))
    | ((with_reducible refine @And.intro (¬ (_ = _)) _ ?_ ?_); (· first | assumption | (with_reducible assumption)); (conv => whnf))
    | (refine hX _ _ _ _ _ _ ?_; (conv => whnf); fail_if_success show False)
    | fail)
  rw [t_si]
  obtain ⟨J, hJ, hg1, hG1, h01⟩ := t_pub hg
  rw [← hJ]
  rw [← hG1] at hQ
  clear hJ hG1 hg I
  have hg := hg1
  have hok := hg.1
  have hl := hg.2.1
  have h8 := hok.2.2.2.1
  have h9 := hok.2.1
  (conv => whnf)
  rcases t_rc many 1 20 (L := Int32.ofInt 1) (H := Int32.ofInt 20) (by decide +kernel) (by decide +kernel) (by omega) (by omega) with ⟨m, hm1, hm20, rfl, e1, f1⟩ | ⟨e1, f1⟩
  · rcases t_rc q 0 16 (L := Int32.ofInt 0) (H := Int32.ofInt 16) (by decide +kernel) (by decide +kernel) (by omega) (by omega) with ⟨q, -, hq, rfl, e2, f2⟩ | ⟨e2, f2⟩
    · rcases t_rc n 1 40 (L := Int32.ofInt 1) (H := Int32.ofInt 40) (by decide +kernel) (by decide +kernel) (by omega) (by omega) with ⟨n, hn1, hn40, rfl, e3, f3⟩ | ⟨e3, f3⟩
      · rcases t_rc what 0 2 (L := Int32.ofInt 0) (H := Int32.ofInt 2) (by decide +kernel) (by decide +kernel) (by omega) (by omega) with ⟨w, -, hw, rfl, e4, f4⟩ | ⟨e4, f4⟩
        · rcases t_hc hg h with ⟨h, hh, rfl, e5, f5⟩ | ⟨e5, f5⟩
          · rw [q_span, f1, f2, f3, f4, f5, Bool.and_true, Bool.and_true, Bool.and_true, Bool.and_true, g_ck_t, nI_clamp (by omega), nI_clamp (by omega), nI_clamp (by omega)] at hQ
            have loop : ∀ k, k ≤ m → ∀ M o, t_sp J M → M 0 0 = nI 0 → (o = none ∨ ∃ z, o = some (.int z)) → X 83 [some (.ref 0), some (.int seed), some (.int (nI m)), some (.int (nI q)), some (.int (nI n)), some (.int (nI w)), some (.int (nI h)), some (.int (g_spanL (tG J) seed (nI q) n k)), some (.int (g_spanM (tG J) seed (nI q) n k)), some (.int (g_spanI (tG J) seed (nI q) n h k)), some (.int (nI k)), o] [] (tW M) 0 0 := by
              refine t_for fun k h1 ih M o hM h0 ho => ?_
              have nx := ih (k + 1) (by omega)
              clear ih
              have hgM := hM.good hg
              have eG := hM.G hg
              have hhM : h < t_h M := by rw [t_h_eq (hM.fx 12 (Or.inl rfl))]; exact hh
              rcases ho with rfl | ⟨z, rfl⟩
              all_goals
                refine hG _ _ _ _ _ _ ?_
                (conv => whnf)
                repeat' (first
                  | ((with_reducible refine @And.intro (vp_in _ _) _ ?_ ?_); (· (first | with_reducible assumption | ((with_reducible refine t_vin ?_); decide) | ((with_reducible refine vp_in_nI ?_ ?_) <;> first | omega | decide) | (simp (disch := omega) only [xl_n, xl_m, nI_dec, nI_sb, nI_add, pk_mul]; (with_reducible refine vp_in_nI ?_ ?_) <;> first | omega | decide))); (conv => whnf))
                  | (refine And.intro (by first | with_reducible assumption | exact (show tL _ = _ from rfl) | decide) ?_; (conv => whnf))
                  | ((with_reducible refine @And.intro (_ = _) _ ?_ ?_); (· rfl); (conv => whnf))
                  | ((with_reducible refine @And.intro (@LE.le Nat _ _ _) _ ?_ ?_); (· (first | exact Nat.zero_le _ | exact Nat.le_of_ble_eq_true rfl | omega)); (conv => whnf))
                  | ((with_reducible refine @And.intro (@LT.lt Nat _ _ _) _ ?_ ?_); (· omega); (conv => whnf))
                  | ((with_reducible refine @And.intro (∃ _, _ = _) _ ?_ ?_); (· exact ⟨_, rfl⟩); (conv => whnf))
                  | ((with_reducible refine @And.intro (_ ∨ _) _ ?_ ?_); (· (first | exact Or.inl rfl | exact Or.inr rfl | exact t_b01 _ | assumption)); (conv => whnf))
                  | ((with_reducible refine @And.intro (¬ (_ = _)) _ ?_ ?_); (· first | assumption | (with_reducible assumption)); (conv => whnf))
                  | (refine hX _ _ _ _ _ _ ?_; (conv => whnf); fail_if_success show False)
                  | (rw [t_si]; (conv => whnf))
                  | (refine ⟨_, rfl, ?_⟩; (conv => whnf))
                  | (refine ⟨_, _, rfl, ?_⟩; (conv => whnf))
                  | (refine ⟨_, _, _, rfl, ?_⟩; (conv => whnf))
                  | (refine ⟨_, _, _, _, rfl, ?_⟩; (conv => whnf))
                  | fail)
                refine And.intro (fun c => ?_) (fun c => ?_) <;> (conv => whnf)
                · have : k = m := Nat.le_antisymm h1 (t_kge rfl c (by omega) (by omega))
                  subst this
                  clear nx
                  repeat' (first
                    | ((with_reducible refine @And.intro (vp_in _ _) _ ?_ ?_); (· (first | with_reducible assumption | ((with_reducible refine t_vin ?_); decide) | ((with_reducible refine vp_in_nI ?_ ?_) <;> first | omega | decide) | (simp (disch := omega) only [xl_n, xl_m, nI_dec, nI_sb, nI_add, pk_mul]; (with_reducible refine vp_in_nI ?_ ?_) <;> first | omega | decide))); (conv => whnf))
                    | (refine And.intro (by first | with_reducible assumption | exact (show tL _ = _ from rfl) | decide) ?_; (conv => whnf))
                    | ((with_reducible refine @And.intro (_ = _) _ ?_ ?_); (· rfl); (conv => whnf))
                    | ((with_reducible refine @And.intro (@LE.le Nat _ _ _) _ ?_ ?_); (· (first | exact Nat.zero_le _ | exact Nat.le_of_ble_eq_true rfl | omega)); (conv => whnf))
                    | ((with_reducible refine @And.intro (@LT.lt Nat _ _ _) _ ?_ ?_); (· omega); (conv => whnf))
                    | ((with_reducible refine @And.intro (∃ _, _ = _) _ ?_ ?_); (· exact ⟨_, rfl⟩); (conv => whnf))
                    | ((with_reducible refine @And.intro (_ ∨ _) _ ?_ ?_); (· (first | exact Or.inl rfl | exact Or.inr rfl | exact t_b01 _ | assumption)); (conv => whnf))
                    | ((with_reducible refine @And.intro (¬ (_ = _)) _ ?_ ?_); (· first | assumption | (with_reducible assumption)); (conv => whnf))
                    | (refine hX _ _ _ _ _ _ ?_; (conv => whnf); fail_if_success show False)
                    | (rw [t_si]; (conv => whnf))
                    | (refine ⟨_, rfl, ?_⟩; (conv => whnf))
                    | (refine ⟨_, _, rfl, ?_⟩; (conv => whnf))
                    | (refine ⟨_, _, _, rfl, ?_⟩; (conv => whnf))
                    | (refine ⟨_, _, _, _, rfl, ?_⟩; (conv => whnf))
                    | (refine And.intro (fun c => ?_) (fun c => ?_) <;> (first | (exact absurd c (by decide +kernel)) | (conv => whnf)))
                    | fail)
                  · have c1 : ¬ nI w = 0 := by assumption
                    have c2 : ¬ nI w = Int32.ofInt 1 := by assumption
                    rw [← nI_0] at c1
                    rw [xl_n.2.1] at c2
                    rw [if_neg c1, if_neg c2] at hQ
                    exact t_ask hQ hg hM h0 rfl
                  · have c1 : ¬ nI w = 0 := by assumption
                    have c2 : nI w = Int32.ofInt 1 := Classical.not_not.mp (by assumption)
                    rw [← nI_0] at c1
                    rw [xl_n.2.1] at c2
                    rw [if_neg c1, if_pos c2] at hQ
                    exact t_ask hQ hg hM h0 rfl
                  · have c1 : nI w = 0 := Classical.not_not.mp (by assumption)
                    rw [← nI_0] at c1
                    rw [if_pos c1] at hQ
                    exact t_ask hQ hg hM h0 rfl
                · have hk : k < m := t_klt rfl c (by omega)
                  repeat' (first
                    | ((with_reducible refine @And.intro (vp_in _ _) _ ?_ ?_); (· (first | with_reducible assumption | ((with_reducible refine t_vin ?_); decide) | ((with_reducible refine vp_in_nI ?_ ?_) <;> first | omega | decide) | (simp (disch := omega) only [xl_n, xl_m, nI_dec, nI_sb, nI_add, pk_mul]; (with_reducible refine vp_in_nI ?_ ?_) <;> first | omega | decide))); (conv => whnf))
                    | (refine And.intro (by first | with_reducible assumption | exact (show tL _ = _ from rfl) | decide) ?_; (conv => whnf))
                    | ((with_reducible refine @And.intro (_ = _) _ ?_ ?_); (· rfl); (conv => whnf))
                    | ((with_reducible refine @And.intro (@LE.le Nat _ _ _) _ ?_ ?_); (· (first | exact Nat.zero_le _ | exact Nat.le_of_ble_eq_true rfl | omega)); (conv => whnf))
                    | ((with_reducible refine @And.intro (@LT.lt Nat _ _ _) _ ?_ ?_); (· omega); (conv => whnf))
                    | ((with_reducible refine @And.intro (∃ _, _ = _) _ ?_ ?_); (· exact ⟨_, rfl⟩); (conv => whnf))
                    | ((with_reducible refine @And.intro (_ ∨ _) _ ?_ ?_); (· (first | exact Or.inl rfl | exact Or.inr rfl | exact t_b01 _ | assumption)); (conv => whnf))
                    | ((with_reducible refine @And.intro (¬ (_ = _)) _ ?_ ?_); (· first | assumption | (with_reducible assumption)); (conv => whnf))
                    | (refine hX _ _ _ _ _ _ ?_; (conv => whnf); fail_if_success show False)
                    | (rw [t_si]; (conv => whnf))
                    | (refine ⟨_, rfl, ?_⟩; (conv => whnf))
                    | (refine ⟨_, _, rfl, ?_⟩; (conv => whnf))
                    | (refine ⟨_, _, _, rfl, ?_⟩; (conv => whnf))
                    | (refine ⟨_, _, _, _, rfl, ?_⟩; (conv => whnf))
                    | (refine And.intro (fun c => ?_) (fun c => ?_) <;> (first | (exact absurd c (by decide +kernel)) | (conv => whnf)))
                    | fail)
                  intro L hL h0L hA
                  rw [eG] at hA
                  have hLs := hM.tr hL
                  have hgL := hLs.good hg
                  have hokL := hgL.1
                  have eKL : tK L = tK J := hLs.same.K hg
                  have hhL : h < t_h L := by rw [t_h_eq (hLs.fx 12 (Or.inl rfl))]; exact hh
                  have hA : tA L 39 = g_fated (tG J) (seed + nI k) (nI q) n := hA
                  have nx := nx (by omega) L (some (.int (g_spanN (tG J) seed (nI q) n k))) hLs (h0L.trans h0) (Or.inr ⟨_, rfl⟩)
                  have eL : g_spanL (tG J) seed (nI q) n (k + 1) = if g_spanL (tG J) seed (nI q) n k = nM then g_spanN (tG J) seed (nI q) n k else t_less (g_spanL (tG J) seed (nI q) n k) (g_spanN (tG J) seed (nI q) n k) := rfl
                  have eM : g_spanM (tG J) seed (nI q) n (k + 1) = t_more (g_spanM (tG J) seed (nI q) n k) (g_spanN (tG J) seed (nI q) n k) := rfl
                  have eI : g_spanI (tG J) seed (nI q) n h (k + 1) = g_spanI (tG J) seed (nI q) n h k + (if g_al (tK J) (g_fated (tG J) (seed + nI k) (nI q) n) h = true then nI 1 else nI 0) := rfl
                  have eN : t_ones (g_alive (tK L) (tA L 39)) = g_spanN (tG J) seed (nI q) n k := by rw [eKL, hA]; rfl
                  have eAl : g_al (tK L) (tA L 39) h = g_al (tK J) (g_fated (tG J) (seed + nI k) (nI q) n) h := by rw [eKL, hA]
                  rw [eL, eM, eI] at nx
                  (conv => whnf)
                  repeat' (first
                    | ((with_reducible refine @And.intro (vp_in _ _) _ ?_ ?_); (· (first | with_reducible assumption | ((with_reducible refine t_vin ?_); decide) | ((with_reducible refine vp_in_nI ?_ ?_) <;> first | omega | decide) | (simp (disch := omega) only [xl_n, xl_m, nI_dec, nI_sb, nI_add, pk_mul]; (with_reducible refine vp_in_nI ?_ ?_) <;> first | omega | decide))); (conv => whnf))
                    | (refine And.intro (by first | with_reducible assumption | exact (show tL _ = _ from rfl) | decide) ?_; (conv => whnf))
                    | ((with_reducible refine @And.intro (_ = _) _ ?_ ?_); (· rfl); (conv => whnf))
                    | ((with_reducible refine @And.intro (@LE.le Nat _ _ _) _ ?_ ?_); (· (first | exact Nat.zero_le _ | exact Nat.le_of_ble_eq_true rfl | omega)); (conv => whnf))
                    | ((with_reducible refine @And.intro (@LT.lt Nat _ _ _) _ ?_ ?_); (· omega); (conv => whnf))
                    | ((with_reducible refine @And.intro (∃ _, _ = _) _ ?_ ?_); (· exact ⟨_, rfl⟩); (conv => whnf))
                    | ((with_reducible refine @And.intro (_ ∨ _) _ ?_ ?_); (· (first | exact Or.inl rfl | exact Or.inr rfl | exact t_b01 _ | assumption)); (conv => whnf))
                    | ((with_reducible refine @And.intro (¬ (_ = _)) _ ?_ ?_); (· first | assumption | (with_reducible assumption)); (conv => whnf))
                    | (refine hX _ _ _ _ _ _ ?_; (conv => whnf); fail_if_success show False)
                    | (rw [t_si]; (conv => whnf))
                    | (refine ⟨_, rfl, ?_⟩; (conv => whnf))
                    | (refine ⟨_, _, rfl, ?_⟩; (conv => whnf))
                    | (refine ⟨_, _, _, rfl, ?_⟩; (conv => whnf))
                    | (refine ⟨_, _, _, _, rfl, ?_⟩; (conv => whnf))
                    | (refine And.intro (fun c => ?_) (fun c => ?_) <;> (first | (exact absurd c (by decide +kernel)) | (conv => whnf)))
                    | fail)
                  · have c1 : ¬ g_spanL (tG J) seed (nI q) n k = Int32.ofInt (-1) := by assumption
                    have c2 : t_b (g_al (tK L) (tA L 39) h) = 0 := by assumption
                    rw [xl_m] at c1
                    rw [t_b0, eAl] at c2
                    rw [if_neg c1, c2, if_neg (by decide)] at nx
                    clear hX hG hQ
                    simp (disch := omega) only [xl_n, xl_m, nI_dec, nI_sb, xl_0, xl_1, tW_i, t_bn0, t_bn1, Classical.not_not, t_lt, nI_add, nI_1, pk_mul, nI_clamp, t_si, nI_eq, nI_leI, nM_ne, nM_ne, xm_set, xm_lv0, xm_psh, eN] at *
                    exact nx
                  · have c1 : ¬ g_spanL (tG J) seed (nI q) n k = Int32.ofInt (-1) := by assumption
                    have c2 : ¬ t_b (g_al (tK L) (tA L 39) h) = 0 := by assumption
                    rw [xl_m] at c1
                    rw [t_b0, eAl, Bool.not_eq_false] at c2
                    rw [if_neg c1, if_pos c2] at nx
                    clear hX hG hQ
                    simp (disch := omega) only [xl_n, xl_m, nI_dec, nI_sb, xl_0, xl_1, tW_i, t_bn0, t_bn1, Classical.not_not, t_lt, nI_add, nI_1, pk_mul, nI_clamp, t_si, nI_eq, nI_leI, nM_ne, nM_ne, xm_set, xm_lv0, xm_psh, eN] at *
                    exact nx
                  · have c1 : g_spanL (tG J) seed (nI q) n k = Int32.ofInt (-1) := Classical.not_not.mp (by assumption)
                    have c2 : t_b (g_al (tK L) (tA L 39) h) = 0 := by assumption
                    rw [xl_m] at c1
                    rw [t_b0, eAl] at c2
                    rw [if_pos c1, c2, if_neg (by decide)] at nx
                    clear hX hG hQ
                    simp (disch := omega) only [xl_n, xl_m, nI_dec, nI_sb, xl_0, xl_1, tW_i, t_bn0, t_bn1, Classical.not_not, t_lt, nI_add, nI_1, pk_mul, nI_clamp, t_si, nI_eq, nI_leI, nM_ne, nM_ne, xm_set, xm_lv0, xm_psh, eN] at *
                    exact nx
                  · have c1 : g_spanL (tG J) seed (nI q) n k = Int32.ofInt (-1) := Classical.not_not.mp (by assumption)
                    have c2 : ¬ t_b (g_al (tK L) (tA L 39) h) = 0 := by assumption
                    rw [xl_m] at c1
                    rw [t_b0, eAl, Bool.not_eq_false] at c2
                    rw [if_pos c1, if_pos c2] at nx
                    clear hX hG hQ
                    simp (disch := omega) only [xl_n, xl_m, nI_dec, nI_sb, xl_0, xl_1, tW_i, t_bn0, t_bn1, Classical.not_not, t_lt, nI_add, nI_1, pk_mul, nI_clamp, t_si, nI_eq, nI_leI, nM_ne, nM_ne, xm_set, xm_lv0, xm_psh, eN] at *
                    exact nx
            repeat' (first
              | ((with_reducible refine @And.intro (vp_in _ _) _ ?_ ?_); (· (first | with_reducible assumption | ((with_reducible refine t_vin ?_); decide) | ((with_reducible refine vp_in_nI ?_ ?_) <;> first | omega | decide) | (simp (disch := omega) only [xl_n, xl_m, nI_dec, nI_sb, nI_add, pk_mul]; (with_reducible refine vp_in_nI ?_ ?_) <;> first | omega | decide))); (conv => whnf))
              | (refine And.intro (by first | with_reducible assumption | exact (show tL _ = _ from rfl) | decide) ?_; (conv => whnf))
              | ((with_reducible refine @And.intro (_ = _) _ ?_ ?_); (· rfl); (conv => whnf))
              | ((with_reducible refine @And.intro (@LE.le Nat _ _ _) _ ?_ ?_); (· (first | exact Nat.zero_le _ | exact Nat.le_of_ble_eq_true rfl | omega)); (conv => whnf))
              | ((with_reducible refine @And.intro (@LT.lt Nat _ _ _) _ ?_ ?_); (· omega); (conv => whnf))
              | ((with_reducible refine @And.intro (∃ _, _ = _) _ ?_ ?_); (· exact ⟨_, rfl⟩); (conv => whnf))
              | ((with_reducible refine @And.intro (_ ∨ _) _ ?_ ?_); (· (first | exact Or.inl rfl | exact Or.inr rfl | exact t_b01 _ | assumption)); (conv => whnf))
              | ((with_reducible refine @And.intro (¬ (_ = _)) _ ?_ ?_); (· first | assumption | (with_reducible assumption)); (conv => whnf))
              | (refine hX _ _ _ _ _ _ ?_; (conv => whnf); fail_if_success show False)
              | (rw [t_si]; (conv => whnf))
              | (refine ⟨_, rfl, ?_⟩; (conv => whnf))
              | (refine ⟨_, _, rfl, ?_⟩; (conv => whnf))
              | (refine ⟨_, _, _, rfl, ?_⟩; (conv => whnf))
              | (refine ⟨_, _, _, _, rfl, ?_⟩; (conv => whnf))
              | (rw [e1]; (conv => whnf))
              | (rw [e2]; (conv => whnf))
              | (rw [e3]; (conv => whnf))
              | (rw [e4]; (conv => whnf))
              | (rw [e5]; (conv => whnf))
              | (refine And.intro (fun c => ?_) (fun c => ?_) <;> (first | (exact absurd c (by decide +kernel)) | (conv => whnf)))
              | fail)
            exact loop 0 (Nat.zero_le _) J none t_sp.rf h01 (Or.inl rfl)
          · rw [q_span] at hQ
            repeat' (first
              | ((with_reducible refine @And.intro (vp_in _ _) _ ?_ ?_); (· (first | with_reducible assumption | ((with_reducible refine t_vin ?_); decide) | ((with_reducible refine vp_in_nI ?_ ?_) <;> first | omega | decide) | (simp (disch := omega) only [xl_n, xl_m, nI_dec, nI_sb, nI_add, pk_mul]; (with_reducible refine vp_in_nI ?_ ?_) <;> first | omega | decide))); (conv => whnf))
              | (refine And.intro (by first | with_reducible assumption | exact (show tL _ = _ from rfl) | decide) ?_; (conv => whnf))
              | ((with_reducible refine @And.intro (_ = _) _ ?_ ?_); (· rfl); (conv => whnf))
              | ((with_reducible refine @And.intro (@LE.le Nat _ _ _) _ ?_ ?_); (· (first | exact Nat.zero_le _ | exact Nat.le_of_ble_eq_true rfl | omega)); (conv => whnf))
              | ((with_reducible refine @And.intro (@LT.lt Nat _ _ _) _ ?_ ?_); (· omega); (conv => whnf))
              | ((with_reducible refine @And.intro (∃ _, _ = _) _ ?_ ?_); (· exact ⟨_, rfl⟩); (conv => whnf))
              | ((with_reducible refine @And.intro (_ ∨ _) _ ?_ ?_); (· (first | exact Or.inl rfl | exact Or.inr rfl | exact t_b01 _ | assumption)); (conv => whnf))
              | ((with_reducible refine @And.intro (¬ (_ = _)) _ ?_ ?_); (· first | assumption | (with_reducible assumption)); (conv => whnf))
              | (refine hX _ _ _ _ _ _ ?_; (conv => whnf); fail_if_success show False)
              | (rw [t_si]; (conv => whnf))
              | (refine ⟨_, rfl, ?_⟩; (conv => whnf))
              | (refine ⟨_, _, rfl, ?_⟩; (conv => whnf))
              | (refine ⟨_, _, _, rfl, ?_⟩; (conv => whnf))
              | (refine ⟨_, _, _, _, rfl, ?_⟩; (conv => whnf))
              | (rw [e1]; (conv => whnf))
              | (rw [e2]; (conv => whnf))
              | (rw [e3]; (conv => whnf))
              | (rw [e4]; (conv => whnf))
              | (rw [e5]; (conv => whnf))
              | (refine And.intro (fun c => ?_) (fun c => ?_) <;> (first | (exact absurd c (by decide +kernel)) | (conv => whnf)))
              | fail)
            exact t_ref' hQ hg h01 (by simp [f1, f2, f3, f4, f5]) (by decide) rfl rfl
        · rw [q_span] at hQ
          repeat' (first
            | ((with_reducible refine @And.intro (vp_in _ _) _ ?_ ?_); (· (first | with_reducible assumption | ((with_reducible refine t_vin ?_); decide) | ((with_reducible refine vp_in_nI ?_ ?_) <;> first | omega | decide) | (simp (disch := omega) only [xl_n, xl_m, nI_dec, nI_sb, nI_add, pk_mul]; (with_reducible refine vp_in_nI ?_ ?_) <;> first | omega | decide))); (conv => whnf))
            | (refine And.intro (by first | with_reducible assumption | exact (show tL _ = _ from rfl) | decide) ?_; (conv => whnf))
            | ((with_reducible refine @And.intro (_ = _) _ ?_ ?_); (· rfl); (conv => whnf))
            | ((with_reducible refine @And.intro (@LE.le Nat _ _ _) _ ?_ ?_); (· (first | exact Nat.zero_le _ | exact Nat.le_of_ble_eq_true rfl | omega)); (conv => whnf))
            | ((with_reducible refine @And.intro (@LT.lt Nat _ _ _) _ ?_ ?_); (· omega); (conv => whnf))
            | ((with_reducible refine @And.intro (∃ _, _ = _) _ ?_ ?_); (· exact ⟨_, rfl⟩); (conv => whnf))
            | ((with_reducible refine @And.intro (_ ∨ _) _ ?_ ?_); (· (first | exact Or.inl rfl | exact Or.inr rfl | exact t_b01 _ | assumption)); (conv => whnf))
            | ((with_reducible refine @And.intro (¬ (_ = _)) _ ?_ ?_); (· first | assumption | (with_reducible assumption)); (conv => whnf))
            | (refine hX _ _ _ _ _ _ ?_; (conv => whnf); fail_if_success show False)
            | (rw [t_si]; (conv => whnf))
            | (refine ⟨_, rfl, ?_⟩; (conv => whnf))
            | (refine ⟨_, _, rfl, ?_⟩; (conv => whnf))
            | (refine ⟨_, _, _, rfl, ?_⟩; (conv => whnf))
            | (refine ⟨_, _, _, _, rfl, ?_⟩; (conv => whnf))
            | (rw [e1]; (conv => whnf))
            | (rw [e2]; (conv => whnf))
            | (rw [e3]; (conv => whnf))
            | (rw [e4]; (conv => whnf))
            | (refine And.intro (fun c => ?_) (fun c => ?_) <;> (first | (exact absurd c (by decide +kernel)) | (conv => whnf)))
            | fail)
          exact t_ref' hQ hg h01 (by simp [f1, f2, f3, f4]) (by decide) rfl rfl
      · rw [q_span] at hQ
        repeat' (first
          | ((with_reducible refine @And.intro (vp_in _ _) _ ?_ ?_); (· (first | with_reducible assumption | ((with_reducible refine t_vin ?_); decide) | ((with_reducible refine vp_in_nI ?_ ?_) <;> first | omega | decide) | (simp (disch := omega) only [xl_n, xl_m, nI_dec, nI_sb, nI_add, pk_mul]; (with_reducible refine vp_in_nI ?_ ?_) <;> first | omega | decide))); (conv => whnf))
          | (refine And.intro (by first | with_reducible assumption | exact (show tL _ = _ from rfl) | decide) ?_; (conv => whnf))
          | ((with_reducible refine @And.intro (_ = _) _ ?_ ?_); (· rfl); (conv => whnf))
          | ((with_reducible refine @And.intro (@LE.le Nat _ _ _) _ ?_ ?_); (· (first | exact Nat.zero_le _ | exact Nat.le_of_ble_eq_true rfl | omega)); (conv => whnf))
          | ((with_reducible refine @And.intro (@LT.lt Nat _ _ _) _ ?_ ?_); (· omega); (conv => whnf))
          | ((with_reducible refine @And.intro (∃ _, _ = _) _ ?_ ?_); (· exact ⟨_, rfl⟩); (conv => whnf))
          | ((with_reducible refine @And.intro (_ ∨ _) _ ?_ ?_); (· (first | exact Or.inl rfl | exact Or.inr rfl | exact t_b01 _ | assumption)); (conv => whnf))
          | ((with_reducible refine @And.intro (¬ (_ = _)) _ ?_ ?_); (· first | assumption | (with_reducible assumption)); (conv => whnf))
          | (refine hX _ _ _ _ _ _ ?_; (conv => whnf); fail_if_success show False)
          | (rw [t_si]; (conv => whnf))
          | (refine ⟨_, rfl, ?_⟩; (conv => whnf))
          | (refine ⟨_, _, rfl, ?_⟩; (conv => whnf))
          | (refine ⟨_, _, _, rfl, ?_⟩; (conv => whnf))
          | (refine ⟨_, _, _, _, rfl, ?_⟩; (conv => whnf))
          | (rw [e1]; (conv => whnf))
          | (rw [e2]; (conv => whnf))
          | (rw [e3]; (conv => whnf))
          | (refine And.intro (fun c => ?_) (fun c => ?_) <;> (first | (exact absurd c (by decide +kernel)) | (conv => whnf)))
          | fail)
        exact t_ref' hQ hg h01 (by simp [f1, f2, f3]) (by decide) rfl rfl
    · rw [q_span] at hQ
      repeat' (first
        | ((with_reducible refine @And.intro (vp_in _ _) _ ?_ ?_); (· (first | with_reducible assumption | ((with_reducible refine t_vin ?_); decide) | ((with_reducible refine vp_in_nI ?_ ?_) <;> first | omega | decide) | (simp (disch := omega) only [xl_n, xl_m, nI_dec, nI_sb, nI_add, pk_mul]; (with_reducible refine vp_in_nI ?_ ?_) <;> first | omega | decide))); (conv => whnf))
        | (refine And.intro (by first | with_reducible assumption | exact (show tL _ = _ from rfl) | decide) ?_; (conv => whnf))
        | ((with_reducible refine @And.intro (_ = _) _ ?_ ?_); (· rfl); (conv => whnf))
        | ((with_reducible refine @And.intro (@LE.le Nat _ _ _) _ ?_ ?_); (· (first | exact Nat.zero_le _ | exact Nat.le_of_ble_eq_true rfl | omega)); (conv => whnf))
        | ((with_reducible refine @And.intro (@LT.lt Nat _ _ _) _ ?_ ?_); (· omega); (conv => whnf))
        | ((with_reducible refine @And.intro (∃ _, _ = _) _ ?_ ?_); (· exact ⟨_, rfl⟩); (conv => whnf))
        | ((with_reducible refine @And.intro (_ ∨ _) _ ?_ ?_); (· (first | exact Or.inl rfl | exact Or.inr rfl | exact t_b01 _ | assumption)); (conv => whnf))
        | ((with_reducible refine @And.intro (¬ (_ = _)) _ ?_ ?_); (· first | assumption | (with_reducible assumption)); (conv => whnf))
        | (refine hX _ _ _ _ _ _ ?_; (conv => whnf); fail_if_success show False)
        | (rw [t_si]; (conv => whnf))
        | (refine ⟨_, rfl, ?_⟩; (conv => whnf))
        | (refine ⟨_, _, rfl, ?_⟩; (conv => whnf))
        | (refine ⟨_, _, _, rfl, ?_⟩; (conv => whnf))
        | (refine ⟨_, _, _, _, rfl, ?_⟩; (conv => whnf))
        | (rw [e1]; (conv => whnf))
        | (rw [e2]; (conv => whnf))
        | (refine And.intro (fun c => ?_) (fun c => ?_) <;> (first | (exact absurd c (by decide +kernel)) | (conv => whnf)))
        | fail)
      exact t_ref' hQ hg h01 (by simp [f1, f2]) (by decide) rfl rfl
  · rw [q_span] at hQ
    repeat' (first
      | ((with_reducible refine @And.intro (vp_in _ _) _ ?_ ?_); (· (first | with_reducible assumption | ((with_reducible refine t_vin ?_); decide) | ((with_reducible refine vp_in_nI ?_ ?_) <;> first | omega | decide) | (simp (disch := omega) only [xl_n, xl_m, nI_dec, nI_sb, nI_add, pk_mul]; (with_reducible refine vp_in_nI ?_ ?_) <;> first | omega | decide))); (conv => whnf))
      | (refine And.intro (by first | with_reducible assumption | exact (show tL _ = _ from rfl) | decide) ?_; (conv => whnf))
      | ((with_reducible refine @And.intro (_ = _) _ ?_ ?_); (· rfl); (conv => whnf))
      | ((with_reducible refine @And.intro (@LE.le Nat _ _ _) _ ?_ ?_); (· (first | exact Nat.zero_le _ | exact Nat.le_of_ble_eq_true rfl | omega)); (conv => whnf))
      | ((with_reducible refine @And.intro (@LT.lt Nat _ _ _) _ ?_ ?_); (· omega); (conv => whnf))
      | ((with_reducible refine @And.intro (∃ _, _ = _) _ ?_ ?_); (· exact ⟨_, rfl⟩); (conv => whnf))
      | ((with_reducible refine @And.intro (_ ∨ _) _ ?_ ?_); (· (first | exact Or.inl rfl | exact Or.inr rfl | exact t_b01 _ | assumption)); (conv => whnf))
      | ((with_reducible refine @And.intro (¬ (_ = _)) _ ?_ ?_); (· first | assumption | (with_reducible assumption)); (conv => whnf))
      | (refine hX _ _ _ _ _ _ ?_; (conv => whnf); fail_if_success show False)
      | (rw [t_si]; (conv => whnf))
      | (refine ⟨_, rfl, ?_⟩; (conv => whnf))
      | (refine ⟨_, _, rfl, ?_⟩; (conv => whnf))
      | (refine ⟨_, _, _, rfl, ?_⟩; (conv => whnf))
      | (refine ⟨_, _, _, _, rfl, ?_⟩; (conv => whnf))
      | (rw [e1]; (conv => whnf))
      | (refine And.intro (fun c => ?_) (fun c => ?_) <;> (first | (exact absurd c (by decide +kernel)) | (conv => whnf)))
      | fail)
    exact t_ref' hQ hg h01 (by simp [f1]) (by decide) rfl rfl
theorem ct_X11_span {Iv : xI} (hI : xm_good Iv) : xm_Ct Iv yX11_span (ws_ yX11_span cX11_span 12 (some .int)) 8 0 0 S_X11_span := xm_enter (rt := 0) (init := false) (by decide +kernel) rfl (fun h => by cases h) (Or.inl ⟨rfl, rfl⟩) (oX11_span hI) body_X11_span
theorem cv_X11_span {Iv : xI} {own : String} {cc : ByteArray} {fr pc idx : Nat} (hI : xm_good Iv) (hdg : decode cc pc = .ok (.invokevirtual idx, 3)) (hl : xm_ml own idx yX11_span) (hfr : 8 < fr) : xm_CallOK Iv own cc fr pc (pc + 3) 7 0 0 (xm_this 8 S_X11_span) := xm_callV 8 hI (ct_X11_span hI) hdg hl q2605 q2606 q145 q2607 rfl rfl (by decide +kernel) hfr (by decide)
