/-! ===== the reference: lacking ===== -/
set_option maxRecDepth 100000
/-- what the puppets of s need, whom all of them refuse -/
def g_lkN (G : gG) (s : Int32) (n : Nat) : Int32 × Int32 := t_fold n (fun p x => if t_has s p = true then (x.1 + gneeds (gGK G) p, x.2 &&& gquar (gGK G) p) else x) (nI 0, g_alive (gGK G) (gnow G))
theorem g_lkN_s {G : gG} {s : Int32} {n : Nat} : g_lkN G s (n + 1) = if t_has s n = true then ((g_lkN G s n).1 + gneeds (gGK G) n, (g_lkN G s n).2 &&& gquar (gGK G) n) else g_lkN G s n := rfl
def g_lkS (G : gG) (bits s b : Int32) : Int32 := if ¬ s &&& (bits ^^^ nM) = nI 0 then b else if ¬ b = nI 0 ∧ t_ones b ≤ t_ones s then b else if (g_lkN G s (gm (gGK G))).1 ≤ t_ones (g_alive (gGK G) (gnow G) &&& ((g_lkN G s (gm (gGK G))).2 ^^^ nM)) then b else s
def g_lk (G : gG) (bits : Int32) (n : Nat) : Int32 := t_fold n (fun k b => g_lkS G bits (nI (k + 1)) b) (nI 0)
theorem g_lk_s {G : gG} {bits : Int32} {n : Nat} : g_lk G bits (n + 1) = g_lkS G bits (nI (n + 1)) (g_lk G bits n) := rfl
def q_lacking (G : gG) (a : Int32) : gR := g_ck G (g_isA G a) (nI 1) 0 (g_says G (g_lk G (g_bits G a.toNatClampNeg) (2 ^ gm (gGK G) - 1)))
abbrev bX11_lacking_0 : List xE := [(.aload_n 0, 1, 0, 0, 0), (.iconst 0, 2, 0, 0, 0), (.putfield 134, 5, 8, 0, 0), (.aload_n 0, 6, 0, 0, 0), (.aload_n 0, 7, 0, 0, 0), (.iload_n 1, 8, 0, 0, 0), (.invokevirtual 344, 11, 0, 0, 9), (.ifCond .ne 7, 14, 0, 18, 0), (.iconst 1, 15, 0, 0, 0), (.goto 4, 18, 0, 19, 0)]
abbrev bX11_lacking_18 : List xE := [(.iconst 0, 19, 0, 0, 0)]
abbrev bX11_lacking_19 : List xE := [(.iconst 1, 20, 0, 0, 0), (.iconst 0, 21, 0, 0, 0), (.invokevirtual 249, 24, 0, 1, 9), (.ifCond .eq 5, 27, 0, 29, 0), (.iconst 0, 28, 0, 0, 0), (.ireturn, 29, 0, 0, 0)]
abbrev bX11_lacking_29 : List xE := [(.iconst 0, 30, 0, 0, 0), (.istore_n 2, 31, 0, 0, 0), (.aload_n 0, 32, 0, 0, 0), (.aload_n 0, 33, 0, 0, 0), (.getfield 91, 36, 8, 36, 1), (.invokevirtual 324, 39, 0, 2, 9), (.istore_n 3, 40, 0, 0, 0), (.iconst 1, 41, 0, 0, 0), (.istore 4, 43, 0, 0, 0)]
abbrev bX11_lacking_43 : List xE := [(.iload 4, 45, 0, 0, 0), (.iconst 1, 46, 0, 0, 0), (.aload_n 0, 47, 0, 0, 0), (.getfield 23, 50, 8, 12, 1), (.iconst 1, 51, 0, 0, 0), (.iaload, 52, 0, 0, 0), (.ishl, 53, 0, 0, 0), (.if_icmp .ge 127, 56, 0, 180, 0), (.iload 4, 58, 0, 0, 0), (.aload_n 0, 59, 0, 0, 0), (.iload_n 1, 60, 0, 0, 0), (.invokevirtual 347, 63, 0, 3, 9), (.iconst (-1), 64, 0, 0, 0), (.ixor, 65, 0, 0, 0), (.iand, 66, 0, 0, 0), (.ifCond .ne 108, 69, 0, 174, 0), (.iload_n 2, 70, 0, 0, 0), (.ifCond .eq 18, 73, 0, 88, 0), (.iload 4, 75, 0, 0, 0), (.invokestatic 246, 78, 0, 4, 9), (.iload_n 2, 79, 0, 0, 0), (.invokestatic 246, 82, 0, 4, 9), (.if_icmp .lt 6, 85, 0, 88, 0), (.goto 89, 88, 0, 174, 0)]
abbrev bX11_lacking_88 : List xE := [(.iconst 0, 89, 0, 0, 0), (.istore 5, 91, 0, 0, 0), (.iload_n 3, 92, 0, 0, 0), (.istore 6, 94, 0, 0, 0), (.iconst 0, 95, 0, 0, 0), (.istore 7, 97, 0, 0, 0)]
abbrev bX11_lacking_97 : List xE := [(.iload 7, 99, 0, 0, 0), (.aload_n 0, 100, 0, 0, 0), (.getfield 23, 103, 8, 12, 1), (.iconst 1, 104, 0, 0, 0), (.iaload, 105, 0, 0, 0), (.if_icmp .ge 48, 108, 0, 153, 0), (.iload 4, 110, 0, 0, 0), (.iload 7, 112, 0, 0, 0), (.invokestatic 242, 115, 0, 5, 9), (.ifCond .ne 6, 118, 0, 121, 0), (.goto 29, 121, 0, 147, 0)]
abbrev bX11_lacking_121 : List xE := [(.iload 5, 123, 0, 0, 0), (.aload_n 0, 124, 0, 0, 0), (.getfield 55, 127, 8, 22, 1), (.iload 7, 129, 0, 0, 0), (.aaload, 130, 0, 0, 0), (.iconst 1, 131, 0, 0, 0), (.iaload, 132, 0, 0, 0), (.iadd, 133, 0, 0, 0), (.istore 5, 135, 0, 0, 0), (.iload 6, 137, 0, 0, 0), (.aload_n 0, 138, 0, 0, 0), (.getfield 35, 141, 8, 16, 1), (.iload 7, 143, 0, 0, 0), (.iaload, 144, 0, 0, 0), (.iand, 145, 0, 0, 0), (.istore 6, 147, 0, 0, 0)]
abbrev bX11_lacking_147 : List xE := [(.iinc 7 1, 150, 0, 0, 0), (.goto (-53), 153, 0, 97, 0)]
abbrev bX11_lacking_153 : List xE := [(.iload 5, 155, 0, 0, 0), (.iload_n 3, 156, 0, 0, 0), (.iload 6, 158, 0, 0, 0), (.iconst (-1), 159, 0, 0, 0), (.ixor, 160, 0, 0, 0), (.iand, 161, 0, 0, 0), (.invokestatic 246, 164, 0, 4, 9), (.if_icmp .le 8, 167, 0, 172, 0), (.iload 4, 169, 0, 0, 0), (.goto 4, 172, 0, 173, 0)]
abbrev bX11_lacking_172 : List xE := [(.iload_n 2, 173, 0, 0, 0)]
abbrev bX11_lacking_173 : List xE := [(.istore_n 2, 174, 0, 0, 0)]
abbrev bX11_lacking_174 : List xE := [(.iinc 4 1, 177, 0, 0, 0), (.goto (-134), 180, 0, 43, 0)]
abbrev bX11_lacking_180 : List xE := [(.iload_n 2, 181, 0, 0, 0), (.ireturn, 182, 0, 0, 0)]
abbrev kX11_lacking : List (Nat × List xE) := [(0, bX11_lacking_0), (18, bX11_lacking_18), (19, bX11_lacking_19), (29, bX11_lacking_29), (43, bX11_lacking_43), (88, bX11_lacking_88), (97, bX11_lacking_97), (121, bX11_lacking_121), (147, bX11_lacking_147), (153, bX11_lacking_153), (172, bX11_lacking_172), (173, bX11_lacking_173), (174, bX11_lacking_174), (180, bX11_lacking_180)]
abbrev lX11_lacking : List (Nat × Nat × Nat × xS) := [(2, 0, 0, xm_this 8 S_X11_isAct), (4, 0, 0, xm_this 8 S_X11_bad), (2, 0, 0, xm_this 8 S_X11_aliveOf), (2, 0, 0, xm_this 8 S_X11_bitsOf), (1, 0, 0, S_X11_ones), (2, 0, 0, S_X11_has)]
theorem oX11_lacking_0 {Iv : xI} (hI : xm_good Iv)  : xm_okb Iv RX11 cX11_lacking false 4 lX11_lacking bX11_lacking_0 0 := xo_0 dX11_lacking_0 rfl trivial (xo_0 dX11_lacking_1 rfl trivial (xo_0 dX11_lacking_2 rfl (xm_fp_of (xm_fg_of (Or.inl q1955) (by decide) rfl (by decide) rfl rfl (Or.inl rfl) rfl) (by decide) rfl (Or.inl ⟨rfl, rfl⟩) rfl) (xo_0 dX11_lacking_5 rfl trivial (xo_0 dX11_lacking_6 rfl trivial (xo_0 dX11_lacking_7 rfl trivial (xo_c rfl (cv_X11_isAct hI dX11_lacking_8 (Or.inl q2331) (by decide)) (xo_0 dX11_lacking_11 rfl rfl (xo_0 dX11_lacking_14 rfl trivial (xo_0 dX11_lacking_15 rfl rfl (xo_n))))))))))
theorem oX11_lacking_18 {Iv : xI} (hI : xm_good Iv)  : xm_okb Iv RX11 cX11_lacking false 4 lX11_lacking bX11_lacking_18 18 := xo_0 dX11_lacking_18 rfl trivial (xo_n)
theorem oX11_lacking_19 {Iv : xI} (hI : xm_good Iv)  : xm_okb Iv RX11 cX11_lacking false 4 lX11_lacking bX11_lacking_19 19 := xo_0 dX11_lacking_19 rfl trivial (xo_0 dX11_lacking_20 rfl trivial (xo_c rfl (cv_X11_bad hI dX11_lacking_21 (Or.inl q2137) (by decide)) (xo_0 dX11_lacking_24 rfl rfl (xo_0 dX11_lacking_27 rfl trivial (xo_0 dX11_lacking_28 rfl trivial (xo_n))))))
theorem oX11_lacking_29 {Iv : xI} (hI : xm_good Iv)  : xm_okb Iv RX11 cX11_lacking false 4 lX11_lacking bX11_lacking_29 29 := xo_0 dX11_lacking_29 rfl trivial (xo_0 dX11_lacking_30 rfl trivial (xo_0 dX11_lacking_31 rfl trivial (xo_0 dX11_lacking_32 rfl trivial (xo_1 dX11_lacking_33 rfl (xm_fg_of (Or.inl q1991) (by decide) rfl (by decide) rfl rfl (Or.inl rfl) rfl) (xo_c rfl (cv_X11_aliveOf hI dX11_lacking_36 (Or.inl q2288) (by decide)) (xo_0 dX11_lacking_39 rfl trivial (xo_0 dX11_lacking_40 rfl trivial (xo_0 dX11_lacking_41 rfl trivial (xo_n)))))))))
theorem oX11_lacking_43 {Iv : xI} (hI : xm_good Iv)  : xm_okb Iv RX11 cX11_lacking false 4 lX11_lacking bX11_lacking_43 43 := xo_0 dX11_lacking_43 rfl trivial (xo_0 dX11_lacking_45 rfl trivial (xo_0 dX11_lacking_46 rfl trivial (xo_1 dX11_lacking_47 rfl (xm_fg_of (Or.inl q1967) (by decide) rfl (by decide) rfl rfl (Or.inl rfl) rfl) (xo_0 dX11_lacking_50 rfl trivial (xo_0 dX11_lacking_51 rfl trivial (xo_0 dX11_lacking_52 rfl trivial (xo_0 dX11_lacking_53 rfl rfl (xo_0 dX11_lacking_56 rfl trivial (xo_0 dX11_lacking_58 rfl trivial (xo_0 dX11_lacking_59 rfl trivial (xo_c rfl (cv_X11_bitsOf hI dX11_lacking_60 (Or.inl q2335) (by decide)) (xo_0 dX11_lacking_63 rfl trivial (xo_0 dX11_lacking_64 rfl trivial (xo_0 dX11_lacking_65 rfl trivial (xo_0 dX11_lacking_66 rfl rfl (xo_0 dX11_lacking_69 rfl trivial (xo_0 dX11_lacking_70 rfl rfl (xo_0 dX11_lacking_73 rfl trivial (xo_c rfl (cv_X11_ones hI dX11_lacking_75 (Or.inl q2218) (by decide)) (xo_0 dX11_lacking_78 rfl trivial (xo_c rfl (cv_X11_ones hI dX11_lacking_79 (Or.inl q2218) (by decide)) (xo_0 dX11_lacking_82 rfl rfl (xo_0 dX11_lacking_85 rfl rfl (xo_n))))))))))))))))))))))))
theorem oX11_lacking_88 {Iv : xI} (hI : xm_good Iv)  : xm_okb Iv RX11 cX11_lacking false 4 lX11_lacking bX11_lacking_88 88 := xo_0 dX11_lacking_88 rfl trivial (xo_0 dX11_lacking_89 rfl trivial (xo_0 dX11_lacking_91 rfl trivial (xo_0 dX11_lacking_92 rfl trivial (xo_0 dX11_lacking_94 rfl trivial (xo_0 dX11_lacking_95 rfl trivial (xo_n))))))
theorem oX11_lacking_97 {Iv : xI} (hI : xm_good Iv)  : xm_okb Iv RX11 cX11_lacking false 4 lX11_lacking bX11_lacking_97 97 := xo_0 dX11_lacking_97 rfl trivial (xo_0 dX11_lacking_99 rfl trivial (xo_1 dX11_lacking_100 rfl (xm_fg_of (Or.inl q1967) (by decide) rfl (by decide) rfl rfl (Or.inl rfl) rfl) (xo_0 dX11_lacking_103 rfl trivial (xo_0 dX11_lacking_104 rfl trivial (xo_0 dX11_lacking_105 rfl rfl (xo_0 dX11_lacking_108 rfl trivial (xo_0 dX11_lacking_110 rfl trivial (xo_c rfl (cv_X11_has hI dX11_lacking_112 (Or.inl q1945) (by decide)) (xo_0 dX11_lacking_115 rfl rfl (xo_0 dX11_lacking_118 rfl rfl (xo_n)))))))))))
theorem oX11_lacking_121 {Iv : xI} (hI : xm_good Iv)  : xm_okb Iv RX11 cX11_lacking false 4 lX11_lacking bX11_lacking_121 121 := xo_0 dX11_lacking_121 rfl trivial (xo_0 dX11_lacking_123 rfl trivial (xo_1 dX11_lacking_124 rfl (xm_fg_of (Or.inl q1977) (by decide) rfl (by decide) rfl rfl (Or.inl rfl) rfl) (xo_0 dX11_lacking_127 rfl trivial (xo_0 dX11_lacking_129 rfl trivial (xo_0 dX11_lacking_130 rfl trivial (xo_0 dX11_lacking_131 rfl trivial (xo_0 dX11_lacking_132 rfl trivial (xo_0 dX11_lacking_133 rfl trivial (xo_0 dX11_lacking_135 rfl trivial (xo_0 dX11_lacking_137 rfl trivial (xo_1 dX11_lacking_138 rfl (xm_fg_of (Or.inl q1971) (by decide) rfl (by decide) rfl rfl (Or.inl rfl) rfl) (xo_0 dX11_lacking_141 rfl trivial (xo_0 dX11_lacking_143 rfl trivial (xo_0 dX11_lacking_144 rfl trivial (xo_0 dX11_lacking_145 rfl trivial (xo_n))))))))))))))))
theorem oX11_lacking_147 {Iv : xI} (hI : xm_good Iv)  : xm_okb Iv RX11 cX11_lacking false 4 lX11_lacking bX11_lacking_147 147 := xo_0 dX11_lacking_147 rfl trivial (xo_0 dX11_lacking_150 rfl rfl (xo_n))
theorem oX11_lacking_153 {Iv : xI} (hI : xm_good Iv)  : xm_okb Iv RX11 cX11_lacking false 4 lX11_lacking bX11_lacking_153 153 := xo_0 dX11_lacking_153 rfl trivial (xo_0 dX11_lacking_155 rfl trivial (xo_0 dX11_lacking_156 rfl trivial (xo_0 dX11_lacking_158 rfl trivial (xo_0 dX11_lacking_159 rfl trivial (xo_0 dX11_lacking_160 rfl trivial (xo_c rfl (cv_X11_ones hI dX11_lacking_161 (Or.inl q2218) (by decide)) (xo_0 dX11_lacking_164 rfl rfl (xo_0 dX11_lacking_167 rfl trivial (xo_0 dX11_lacking_169 rfl rfl (xo_n))))))))))
theorem oX11_lacking_172 {Iv : xI} (hI : xm_good Iv)  : xm_okb Iv RX11 cX11_lacking false 4 lX11_lacking bX11_lacking_172 172 := xo_0 dX11_lacking_172 rfl trivial (xo_n)
theorem oX11_lacking_173 {Iv : xI} (hI : xm_good Iv)  : xm_okb Iv RX11 cX11_lacking false 4 lX11_lacking bX11_lacking_173 173 := xo_0 dX11_lacking_173 rfl trivial (xo_n)
theorem oX11_lacking_174 {Iv : xI} (hI : xm_good Iv)  : xm_okb Iv RX11 cX11_lacking false 4 lX11_lacking bX11_lacking_174 174 := xo_0 dX11_lacking_174 rfl trivial (xo_0 dX11_lacking_177 rfl rfl (xo_n))
theorem oX11_lacking_180 {Iv : xI} (hI : xm_good Iv)  : xm_okb Iv RX11 cX11_lacking false 4 lX11_lacking bX11_lacking_180 180 := xo_0 dX11_lacking_180 rfl trivial (xo_0 dX11_lacking_181 rfl trivial (xo_n))
theorem oX11_lacking {Iv : xI} (hI : xm_good Iv)  : ∀ q ∈ kX11_lacking, xm_okb Iv RX11 cX11_lacking false 4 lX11_lacking q.2 q.1 := by
  intro q hq
  simp only [List.mem_cons, List.not_mem_nil, or_false] at hq
  rcases hq with rfl | rfl | rfl | rfl | rfl | rfl | rfl | rfl | rfl | rfl | rfl | rfl | rfl | rfl
  · exact oX11_lacking_0 hI  
  · exact oX11_lacking_18 hI  
  · exact oX11_lacking_19 hI  
  · exact oX11_lacking_29 hI  
  · exact oX11_lacking_43 hI  
  · exact oX11_lacking_88 hI  
  · exact oX11_lacking_97 hI  
  · exact oX11_lacking_121 hI  
  · exact oX11_lacking_147 hI  
  · exact oX11_lacking_153 hI  
  · exact oX11_lacking_172 hI  
  · exact oX11_lacking_173 hI  
  · exact oX11_lacking_174 hI  
  · exact oX11_lacking_180 hI  
def S_X11_lacking : xS := tU fun as I Q => ∃ a, as = [.ref 0, .int a] ∧ t_good I ∧ t_P Q (q_lacking (tG I) a)
theorem body_X11_lacking : xm_Body 8 0 0 0 [] lX11_lacking kX11_lacking S_X11_lacking := by
  intro X avs w Q QX hX0 hS
  have hG := xm_go [] hX0
  have hX := xm_go [43,97] hX0
  clear hX0
  obtain ⟨I, rfl, a, rfl, hg, hQ⟩ := hS
  refine ⟨rfl, ?_⟩
  repeat' (first
    | ((with_reducible refine @And.intro (vp_in _ _) _ ?_ ?_); (· (first | with_reducible assumption | ((with_reducible refine t_vin ?_); decide) | ((with_reducible refine vp_in_nI ?_ ?_) <;> first | omega | decide) | (simp (disch := omega) only [xl_n, xl_m, nI_dec, nI_sb, nI_add, pk_mul]; (with_reducible refine vp_in_nI ?_ ?_) <;> first | omega | decide))); (conv => whnf))
    | (refine And.intro (by first | with_reducible assumption | exact (show tL _ = _ from rfl) | decide) ?_; (conv => whnf))
    | ((with_reducible refine @And.intro (_ = _) _ ?_ ?_); (· rfl); (conv => whnf))
    | ((with_reducible refine @And.intro (@LE.le Nat _ _ _) _ ?_ ?_); (· (first | exact Nat.zero_le _ | exact Nat.le_of_ble_eq_true rfl | omega)); (conv => whnf))
    | ((with_reducible refine @And.intro (@LT.lt Nat _ _ _) _ ?_ ?_); (· omega); (conv => whnf))
    | ((with_reducible refine @And.intro (∃ _, _ = _) _ ?_ ?_); (· exact ⟨_, rfl⟩); (conv => whnf))
    | ((with_reducible refine @And.intro (_ ∨ _) _ ?_ ?_); (· (first | exact Or.inl rfl | exact Or.inr rfl | exact t_b01 _ | assumption)); (conv => whnf))
    | ((with_reducible refine @And.intro (¬ (_ = _)) _ ?_ ?_); (· first | assumption | (with_reducible assumption)); (conv => whnf))
    | (refine hX _ _ _ _ _ _ ?_; (conv => whnf); fail_if_success show False)
    | fail)
  rw [t_si]
  obtain ⟨J, hJ, hg1, hG1, h01⟩ := t_pub hg
  rw [← hJ]
  rw [← hG1] at hQ
  clear hJ hG1 hg I
  have hg := hg1
  have hok := hg.1
  have hl := hg.2.1
  have h8 := hok.2.2.2.1
  have h9 := hok.2.1
  (conv => whnf)
  have hm := hok.2.2.1
  have h6a := hok.2.2.2.2.2
  rcases t_ac hg a with ⟨a, ha, rfl, e1, f1⟩ | ⟨e1, f1⟩
  · rw [q_lacking, f1, g_ck_t, nI_clamp (by omega)] at hQ
    have e2m : nI 1 <<< (J 12 1 &&& 31) = nI (2 ^ t_p J) := by rw [hm]; exact t_2n _ (by omega)
    have h256 : 2 ^ t_p J ≤ 2 ^ 8 := Nat.pow_le_pow_right (by omega) h8
    have hpos : 0 < 2 ^ t_p J := Nat.pow_pos (by omega)
    have l1 : ∀ k, k ≤ 2 ^ t_p J - 1 → ∀ o5 o6 o7, ((o5 = none ∧ o6 = none ∧ o7 = none) ∨ ∃ x y z, o5 = some (.int x) ∧ o6 = some (.int y) ∧ o7 = some (.int z)) → X 43 [some (.ref 0), some (.int (nI a)), some (.int (g_lk (tG J) (g_bits (tG J) a) k)), some (.int (g_alive (tK J) (tA J 36))), some (.int (nI (k + 1))), o5, o6, o7] [] (tW J) 0 0 := by
      refine t_for fun k h1 ih o5 o6 o7 ho => ?_
      have nx := ih (k + 1) (by omega)
      clear ih
      have hk32 : k + 1 < 2 ^ 31 := by omega
      have l2 : k < 2 ^ t_p J - 1 → nI (k + 1) &&& (g_bits (tG J) a ^^^ nM) = nI 0 → ¬ (¬ g_lk (tG J) (g_bits (tG J) a) k = nI 0 ∧ t_ones (g_lk (tG J) (g_bits (tG J) a) k) ≤ t_ones (nI (k + 1))) → ∀ p, p ≤ t_p J → X 97 [some (.ref 0), some (.int (nI a)), some (.int (g_lk (tG J) (g_bits (tG J) a) k)), some (.int (g_alive (tK J) (tA J 36))), some (.int (nI (k + 1))), some (.int (g_lkN (tG J) (nI (k + 1)) p).1), some (.int (g_lkN (tG J) (nI (k + 1)) p).2), some (.int (nI p))] [] (tW J) 0 0 := by
        intro hk hb hb2
        refine t_for fun p h1 ih => ?_
        have ih := ih (p + 1) (by omega)
        have es : g_lk (tG J) (g_bits (tG J) a) (k + 1) = if (g_lkN (tG J) (nI (k + 1)) (t_p J)).1 ≤ t_ones (g_alive (tK J) (tA J 36) &&& ((g_lkN (tG J) (nI (k + 1)) (t_p J)).2 ^^^ nM)) then g_lk (tG J) (g_bits (tG J) a) k else nI (k + 1) := by
          rw [g_lk_s]
          unfold g_lkS
          rw [if_neg (fun h => h hb), if_neg hb2]
          rfl
        refine hG _ _ _ _ _ _ ?_
        (conv => whnf)
        repeat' (first
          | ((with_reducible refine @And.intro (vp_in _ _) _ ?_ ?_); (· (first | with_reducible assumption | ((with_reducible refine t_vin ?_); decide) | ((with_reducible refine vp_in_nI ?_ ?_) <;> first | omega | decide) | (simp (disch := omega) only [xl_n, xl_m, nI_dec, nI_sb, nI_add, pk_mul]; (with_reducible refine vp_in_nI ?_ ?_) <;> first | omega | decide))); (conv => whnf))
          | (refine And.intro (by first | with_reducible assumption | exact (show tL _ = _ from rfl) | decide) ?_; (conv => whnf))
          | ((with_reducible refine @And.intro (_ = _) _ ?_ ?_); (· rfl); (conv => whnf))
          | ((with_reducible refine @And.intro (@LE.le Nat _ _ _) _ ?_ ?_); (· (first | exact Nat.zero_le _ | exact Nat.le_of_ble_eq_true rfl | omega)); (conv => whnf))
          | ((with_reducible refine @And.intro (@LT.lt Nat _ _ _) _ ?_ ?_); (· omega); (conv => whnf))
          | ((with_reducible refine @And.intro (∃ _, _ = _) _ ?_ ?_); (· exact ⟨_, rfl⟩); (conv => whnf))
          | ((with_reducible refine @And.intro (_ ∨ _) _ ?_ ?_); (· (first | exact Or.inl rfl | exact Or.inr rfl | exact t_b01 _ | assumption)); (conv => whnf))
          | ((with_reducible refine @And.intro (¬ (_ = _)) _ ?_ ?_); (· first | assumption | (with_reducible assumption)); (conv => whnf))
          | (refine hX _ _ _ _ _ _ ?_; (conv => whnf); fail_if_success show False)
          | (rw [t_si]; (conv => whnf))
          | (refine ⟨_, rfl, ?_⟩; (conv => whnf))
          | (refine ⟨_, _, rfl, ?_⟩; (conv => whnf))
          | (refine ⟨_, _, _, rfl, ?_⟩; (conv => whnf))
          | (refine ⟨_, _, _, _, rfl, ?_⟩; (conv => whnf))
          | fail)
        refine And.intro (fun c => ?_) (fun c => ?_) <;> (conv => whnf)
        · have : p = t_p J := Nat.le_antisymm h1 (t_kge hm c (by omega) (by omega))
          subst this
          have nx := nx (by omega) _ _ _ (Or.inr ⟨(g_lkN (tG J) (nI (k + 1)) (t_p J)).1, (g_lkN (tG J) (nI (k + 1)) (t_p J)).2, nI (t_p J), rfl, rfl, rfl⟩)
          clear ih
          repeat' (first
            | ((with_reducible refine @And.intro (vp_in _ _) _ ?_ ?_); (· (first | with_reducible assumption | ((with_reducible refine t_vin ?_); decide) | ((with_reducible refine vp_in_nI ?_ ?_) <;> first | omega | decide) | (simp (disch := omega) only [xl_n, xl_m, nI_dec, nI_sb, nI_add, pk_mul]; (with_reducible refine vp_in_nI ?_ ?_) <;> first | omega | decide))); (conv => whnf))
            | (refine And.intro (by first | with_reducible assumption | exact (show tL _ = _ from rfl) | decide) ?_; (conv => whnf))
            | ((with_reducible refine @And.intro (_ = _) _ ?_ ?_); (· rfl); (conv => whnf))
            | ((with_reducible refine @And.intro (@LE.le Nat _ _ _) _ ?_ ?_); (· (first | exact Nat.zero_le _ | exact Nat.le_of_ble_eq_true rfl | omega)); (conv => whnf))
            | ((with_reducible refine @And.intro (@LT.lt Nat _ _ _) _ ?_ ?_); (· omega); (conv => whnf))
            | ((with_reducible refine @And.intro (∃ _, _ = _) _ ?_ ?_); (· exact ⟨_, rfl⟩); (conv => whnf))
            | ((with_reducible refine @And.intro (_ ∨ _) _ ?_ ?_); (· (first | exact Or.inl rfl | exact Or.inr rfl | exact t_b01 _ | assumption)); (conv => whnf))
            | ((with_reducible refine @And.intro (¬ (_ = _)) _ ?_ ?_); (· first | assumption | (with_reducible assumption)); (conv => whnf))
            | (refine hX _ _ _ _ _ _ ?_; (conv => whnf); fail_if_success show False)
            | (rw [t_si]; (conv => whnf))
            | (refine ⟨_, rfl, ?_⟩; (conv => whnf))
            | (refine ⟨_, _, rfl, ?_⟩; (conv => whnf))
            | (refine ⟨_, _, _, rfl, ?_⟩; (conv => whnf))
            | (refine ⟨_, _, _, _, rfl, ?_⟩; (conv => whnf))
            | (refine And.intro (fun c => ?_) (fun c => ?_) <;> (first | (exact absurd c (by decide +kernel)) | (conv => whnf)))
            | fail)
          · have c' : (g_lkN (tG J) (nI (k + 1)) (t_p J)).1 ≤ t_ones (g_alive (tK J) (tA J 36) &&& ((g_lkN (tG J) (nI (k + 1)) (t_p J)).2 ^^^ Int32.ofInt (-1))) := by assumption
            rw [xl_m] at c'
            rw [es, if_pos c'] at nx
            clear hX hG hQ
            simp (disch := omega) only [xl_n, xl_m, nI_dec, nI_sb, xl_0, xl_1, tW_i, t_bn0, t_bn1, Classical.not_not, t_lt, nI_add, nI_1, pk_mul, nI_clamp, t_si, nI_eq, nI_leI, nM_ne, nM_ne, xm_set, xm_lv0, xm_psh] at *
            exact nx
          · have c' : ¬ (g_lkN (tG J) (nI (k + 1)) (t_p J)).1 ≤ t_ones (g_alive (tK J) (tA J 36) &&& ((g_lkN (tG J) (nI (k + 1)) (t_p J)).2 ^^^ Int32.ofInt (-1))) := by assumption
            rw [xl_m] at c'
            rw [es, if_neg c'] at nx
            clear hX hG hQ
            simp (disch := omega) only [xl_n, xl_m, nI_dec, nI_sb, xl_0, xl_1, tW_i, t_bn0, t_bn1, Classical.not_not, t_lt, nI_add, nI_1, pk_mul, nI_clamp, t_si, nI_eq, nI_leI, nM_ne, nM_ne, xm_set, xm_lv0, xm_psh] at *
            exact nx
        · have hp : p < t_p J := t_klt hm c (by omega)
          have ih := ih (by omega)
          have hp8 : p < 8 := by omega
          rw [g_lkN_s, show gneeds (gGK (tG J)) p = J (130 + p) 1 from tK_needs hp, show gquar (gGK (tG J)) p = J 16 p from tK_quar hp] at ih
          repeat' (first
            | ((with_reducible refine @And.intro (vp_in _ _) _ ?_ ?_); (· (first | with_reducible assumption | ((with_reducible refine t_vin ?_); decide) | ((with_reducible refine vp_in_nI ?_ ?_) <;> first | omega | decide) | (simp (disch := omega) only [xl_n, xl_m, nI_dec, nI_sb, nI_add, pk_mul]; (with_reducible refine vp_in_nI ?_ ?_) <;> first | omega | decide))); (conv => whnf))
            | (refine And.intro (by first | with_reducible assumption | exact (show tL _ = _ from rfl) | decide) ?_; (conv => whnf))
            | ((with_reducible refine @And.intro (_ = _) _ ?_ ?_); (· rfl); (conv => whnf))
            | ((with_reducible refine @And.intro (@LE.le Nat _ _ _) _ ?_ ?_); (· (first | exact Nat.zero_le _ | exact Nat.le_of_ble_eq_true rfl | omega)); (conv => whnf))
            | ((with_reducible refine @And.intro (@LT.lt Nat _ _ _) _ ?_ ?_); (· omega); (conv => whnf))
            | ((with_reducible refine @And.intro (∃ _, _ = _) _ ?_ ?_); (· exact ⟨_, rfl⟩); (conv => whnf))
            | ((with_reducible refine @And.intro (_ ∨ _) _ ?_ ?_); (· (first | exact Or.inl rfl | exact Or.inr rfl | exact t_b01 _ | assumption)); (conv => whnf))
            | ((with_reducible refine @And.intro (¬ (_ = _)) _ ?_ ?_); (· first | assumption | (with_reducible assumption)); (conv => whnf))
            | (refine hX _ _ _ _ _ _ ?_; (conv => whnf); fail_if_success show False)
            | (rw [t_si]; (conv => whnf))
            | (refine ⟨_, rfl, ?_⟩; (conv => whnf))
            | (refine ⟨_, _, rfl, ?_⟩; (conv => whnf))
            | (refine ⟨_, _, _, rfl, ?_⟩; (conv => whnf))
            | (refine ⟨_, _, _, _, rfl, ?_⟩; (conv => whnf))
            | (rw [t_l130 (by first | with_reducible assumption | omega | exact vp_lt (by assumption) | (rw [nI_clamp (by omega)]; omega))]; (conv => whnf))
            | (refine And.intro (fun c => ?_) (fun c => ?_) <;> (first | (exact absurd c (by decide +kernel)) | (conv => whnf)))
            | fail)
          · have c' : ¬ t_b (t_has (nI (k + 1)) p) = 0 := by assumption
            rw [t_b0, Bool.not_eq_false] at c'
            rw [if_pos c'] at ih
            clear hX hG hQ nx
            simp (disch := omega) only [xl_n, xl_m, nI_dec, nI_sb, xl_0, xl_1, tW_i, t_bn0, t_bn1, Classical.not_not, t_lt, nI_add, nI_1, pk_mul, nI_clamp, t_si, nI_eq, nI_leI, nM_ne, nM_ne, xm_set, xm_lv0, xm_psh] at *
            exact ih
          · have c' : t_b (t_has (nI (k + 1)) p) = 0 := Classical.not_not.mp (by assumption)
            rw [t_b0] at c'
            rw [c', if_neg (by decide)] at ih
            clear hX hG hQ nx
            simp (disch := omega) only [xl_n, xl_m, nI_dec, nI_sb, xl_0, xl_1, tW_i, t_bn0, t_bn1, Classical.not_not, t_lt, nI_add, nI_1, pk_mul, nI_clamp, t_si, nI_eq, nI_leI, nM_ne, nM_ne, xm_set, xm_lv0, xm_psh] at *
            exact ih
      rcases ho with ⟨rfl, rfl, rfl⟩ | ⟨x, y, z, rfl, rfl, rfl⟩
      all_goals
        refine hG _ _ _ _ _ _ ?_
        (conv => whnf)
        repeat' (first
          | ((with_reducible refine @And.intro (vp_in _ _) _ ?_ ?_); (· (first | with_reducible assumption | ((with_reducible refine t_vin ?_); decide) | ((with_reducible refine vp_in_nI ?_ ?_) <;> first | omega | decide) | (simp (disch := omega) only [xl_n, xl_m, nI_dec, nI_sb, nI_add, pk_mul]; (with_reducible refine vp_in_nI ?_ ?_) <;> first | omega | decide))); (conv => whnf))
          | (refine And.intro (by first | with_reducible assumption | exact (show tL _ = _ from rfl) | decide) ?_; (conv => whnf))
          | ((with_reducible refine @And.intro (_ = _) _ ?_ ?_); (· rfl); (conv => whnf))
          | ((with_reducible refine @And.intro (@LE.le Nat _ _ _) _ ?_ ?_); (· (first | exact Nat.zero_le _ | exact Nat.le_of_ble_eq_true rfl | omega)); (conv => whnf))
          | ((with_reducible refine @And.intro (@LT.lt Nat _ _ _) _ ?_ ?_); (· omega); (conv => whnf))
          | ((with_reducible refine @And.intro (∃ _, _ = _) _ ?_ ?_); (· exact ⟨_, rfl⟩); (conv => whnf))
          | ((with_reducible refine @And.intro (_ ∨ _) _ ?_ ?_); (· (first | exact Or.inl rfl | exact Or.inr rfl | exact t_b01 _ | assumption)); (conv => whnf))
          | ((with_reducible refine @And.intro (¬ (_ = _)) _ ?_ ?_); (· first | assumption | (with_reducible assumption)); (conv => whnf))
          | (refine hX _ _ _ _ _ _ ?_; (conv => whnf); fail_if_success show False)
          | (rw [t_si]; (conv => whnf))
          | (refine ⟨_, rfl, ?_⟩; (conv => whnf))
          | (refine ⟨_, _, rfl, ?_⟩; (conv => whnf))
          | (refine ⟨_, _, _, rfl, ?_⟩; (conv => whnf))
          | (refine ⟨_, _, _, _, rfl, ?_⟩; (conv => whnf))
          | fail)
        refine And.intro (fun c => ?_) (fun c => ?_) <;> (conv => whnf)
        · have e : k = 2 ^ t_p J - 1 := by
            have c' : nI 1 <<< (J 12 1 &&& 31) ≤ nI (k + 1) := c
            rw [e2m, nI_leI (by omega) (by omega)] at c'
            omega
          subst e
          clear nx l2
          repeat' (first
            | ((with_reducible refine @And.intro (vp_in _ _) _ ?_ ?_); (· (first | with_reducible assumption | ((with_reducible refine t_vin ?_); decide) | ((with_reducible refine vp_in_nI ?_ ?_) <;> first | omega | decide) | (simp (disch := omega) only [xl_n, xl_m, nI_dec, nI_sb, nI_add, pk_mul]; (with_reducible refine vp_in_nI ?_ ?_) <;> first | omega | decide))); (conv => whnf))
            | (refine And.intro (by first | with_reducible assumption | exact (show tL _ = _ from rfl) | decide) ?_; (conv => whnf))
            | ((with_reducible refine @And.intro (_ = _) _ ?_ ?_); (· rfl); (conv => whnf))
            | ((with_reducible refine @And.intro (@LE.le Nat _ _ _) _ ?_ ?_); (· (first | exact Nat.zero_le _ | exact Nat.le_of_ble_eq_true rfl | omega)); (conv => whnf))
            | ((with_reducible refine @And.intro (@LT.lt Nat _ _ _) _ ?_ ?_); (· omega); (conv => whnf))
            | ((with_reducible refine @And.intro (∃ _, _ = _) _ ?_ ?_); (· exact ⟨_, rfl⟩); (conv => whnf))
            | ((with_reducible refine @And.intro (_ ∨ _) _ ?_ ?_); (· (first | exact Or.inl rfl | exact Or.inr rfl | exact t_b01 _ | assumption)); (conv => whnf))
            | ((with_reducible refine @And.intro (¬ (_ = _)) _ ?_ ?_); (· first | assumption | (with_reducible assumption)); (conv => whnf))
            | (refine hX _ _ _ _ _ _ ?_; (conv => whnf); fail_if_success show False)
            | (rw [t_si]; (conv => whnf))
            | (refine ⟨_, rfl, ?_⟩; (conv => whnf))
            | (refine ⟨_, _, rfl, ?_⟩; (conv => whnf))
            | (refine ⟨_, _, _, rfl, ?_⟩; (conv => whnf))
            | (refine ⟨_, _, _, _, rfl, ?_⟩; (conv => whnf))
            | (refine And.intro (fun c => ?_) (fun c => ?_) <;> (first | (exact absurd c (by decide +kernel)) | (conv => whnf)))
            | fail)
          exact t_ask hQ hg t_sp.rf h01 rfl
        · have hk : k < 2 ^ t_p J - 1 := by
            have c' : ¬ nI 1 <<< (J 12 1 &&& 31) ≤ nI (k + 1) := c
            rw [e2m, nI_leI (by omega) (by omega)] at c'
            omega
          have l2 := l2 hk
          have nx := nx (by omega)
          have ex : g_lk (tG J) (g_bits (tG J) a) (k + 1) = g_lkS (tG J) (g_bits (tG J) a) (nI (k + 1)) (g_lk (tG J) (g_bits (tG J) a) k) := rfl
          unfold g_lkS at ex
          repeat' (first
            | ((with_reducible refine @And.intro (vp_in _ _) _ ?_ ?_); (· (first | with_reducible assumption | ((with_reducible refine t_vin ?_); decide) | ((with_reducible refine vp_in_nI ?_ ?_) <;> first | omega | decide) | (simp (disch := omega) only [xl_n, xl_m, nI_dec, nI_sb, nI_add, pk_mul]; (with_reducible refine vp_in_nI ?_ ?_) <;> first | omega | decide))); (conv => whnf))
            | (refine And.intro (by first | with_reducible assumption | exact (show tL _ = _ from rfl) | decide) ?_; (conv => whnf))
            | ((with_reducible refine @And.intro (_ = _) _ ?_ ?_); (· rfl); (conv => whnf))
            | ((with_reducible refine @And.intro (@LE.le Nat _ _ _) _ ?_ ?_); (· (first | exact Nat.zero_le _ | exact Nat.le_of_ble_eq_true rfl | omega)); (conv => whnf))
            | ((with_reducible refine @And.intro (@LT.lt Nat _ _ _) _ ?_ ?_); (· omega); (conv => whnf))
            | ((with_reducible refine @And.intro (∃ _, _ = _) _ ?_ ?_); (· exact ⟨_, rfl⟩); (conv => whnf))
            | ((with_reducible refine @And.intro (_ ∨ _) _ ?_ ?_); (· (first | exact Or.inl rfl | exact Or.inr rfl | exact t_b01 _ | assumption)); (conv => whnf))
            | ((with_reducible refine @And.intro (¬ (_ = _)) _ ?_ ?_); (· first | assumption | (with_reducible assumption)); (conv => whnf))
            | (refine hX _ _ _ _ _ _ ?_; (conv => whnf); fail_if_success show False)
            | (rw [t_si]; (conv => whnf))
            | (refine ⟨_, rfl, ?_⟩; (conv => whnf))
            | (refine ⟨_, _, rfl, ?_⟩; (conv => whnf))
            | (refine ⟨_, _, _, rfl, ?_⟩; (conv => whnf))
            | (refine ⟨_, _, _, _, rfl, ?_⟩; (conv => whnf))
            | (refine And.intro (fun c => ?_) (fun c => ?_) <;> (first | (exact absurd c (by decide +kernel)) | (conv => whnf)))
            | fail)
          · have c1 : ¬ nI (k + 1) &&& (g_bits (tG J) a ^^^ Int32.ofInt (-1)) = 0 := by assumption
            rw [xl_m, ← nI_0] at c1
            rw [if_pos c1] at ex
            rw [ex] at nx
            clear hX hG hQ l2 ex
            simp (disch := omega) only [xl_n, xl_m, nI_dec, nI_sb, xl_0, xl_1, tW_i, t_bn0, t_bn1, Classical.not_not, t_lt, nI_add, nI_1, pk_mul, nI_clamp, t_si, nI_eq, nI_leI, nM_ne, nM_ne, xm_set, xm_lv0, xm_psh] at *
            exact nx _ _ _ (by first | exact Or.inl ⟨rfl, rfl, rfl⟩ | exact Or.inr ⟨_, _, _, rfl, rfl, rfl⟩)
          · have c1 : nI (k + 1) &&& (g_bits (tG J) a ^^^ Int32.ofInt (-1)) = 0 := Classical.not_not.mp (by assumption)
            have c2 : g_lk (tG J) (g_bits (tG J) a) k = 0 := by assumption
            rw [xl_m, ← nI_0] at c1
            rw [← nI_0] at c2
            have := l2 c1 (fun h => h.1 c2) 0 (Nat.zero_le _)
            clear hX hG hQ nx l2 ex
            exact this
          · have c1 : nI (k + 1) &&& (g_bits (tG J) a ^^^ Int32.ofInt (-1)) = 0 := Classical.not_not.mp (by assumption)
            have c3 : t_ones (nI (k + 1)) < t_ones (g_lk (tG J) (g_bits (tG J) a) k) := by assumption
            rw [xl_m, ← nI_0] at c1
            have := l2 c1 (fun h => Int32.not_le.mpr c3 h.2) 0 (Nat.zero_le _)
            clear hX hG hQ nx l2 ex
            exact this
          · have c1 : nI (k + 1) &&& (g_bits (tG J) a ^^^ Int32.ofInt (-1)) = 0 := Classical.not_not.mp (by assumption)
            have c2 : ¬ g_lk (tG J) (g_bits (tG J) a) k = 0 := by assumption
            have c3 : ¬ t_ones (nI (k + 1)) < t_ones (g_lk (tG J) (g_bits (tG J) a) k) := by assumption
            rw [xl_m, ← nI_0] at c1
            rw [← nI_0] at c2
            rw [if_neg (fun h => h c1), if_pos ⟨c2, Int32.not_lt.mp c3⟩] at ex
            rw [ex] at nx
            clear hX hG hQ l2 ex
            simp (disch := omega) only [xl_n, xl_m, nI_dec, nI_sb, xl_0, xl_1, tW_i, t_bn0, t_bn1, Classical.not_not, t_lt, nI_add, nI_1, pk_mul, nI_clamp, t_si, nI_eq, nI_leI, nM_ne, nM_ne, xm_set, xm_lv0, xm_psh] at *
            exact nx _ _ _ (by first | exact Or.inl ⟨rfl, rfl, rfl⟩ | exact Or.inr ⟨_, _, _, rfl, rfl, rfl⟩)
    repeat' (first
      | ((with_reducible refine @And.intro (vp_in _ _) _ ?_ ?_); (· (first | with_reducible assumption | ((with_reducible refine t_vin ?_); decide) | ((with_reducible refine vp_in_nI ?_ ?_) <;> first | omega | decide) | (simp (disch := omega) only [xl_n, xl_m, nI_dec, nI_sb, nI_add, pk_mul]; (with_reducible refine vp_in_nI ?_ ?_) <;> first | omega | decide))); (conv => whnf))
      | (refine And.intro (by first | with_reducible assumption | exact (show tL _ = _ from rfl) | decide) ?_; (conv => whnf))
      | ((with_reducible refine @And.intro (_ = _) _ ?_ ?_); (· rfl); (conv => whnf))
      | ((with_reducible refine @And.intro (@LE.le Nat _ _ _) _ ?_ ?_); (· (first | exact Nat.zero_le _ | exact Nat.le_of_ble_eq_true rfl | omega)); (conv => whnf))
      | ((with_reducible refine @And.intro (@LT.lt Nat _ _ _) _ ?_ ?_); (· omega); (conv => whnf))
      | ((with_reducible refine @And.intro (∃ _, _ = _) _ ?_ ?_); (· exact ⟨_, rfl⟩); (conv => whnf))
      | ((with_reducible refine @And.intro (_ ∨ _) _ ?_ ?_); (· (first | exact Or.inl rfl | exact Or.inr rfl | exact t_b01 _ | assumption)); (conv => whnf))
      | ((with_reducible refine @And.intro (¬ (_ = _)) _ ?_ ?_); (· first | assumption | (with_reducible assumption)); (conv => whnf))
      | (refine hX _ _ _ _ _ _ ?_; (conv => whnf); fail_if_success show False)
      | (rw [t_si]; (conv => whnf))
      | (refine ⟨_, rfl, ?_⟩; (conv => whnf))
      | (refine ⟨_, _, rfl, ?_⟩; (conv => whnf))
      | (refine ⟨_, _, _, rfl, ?_⟩; (conv => whnf))
      | (refine ⟨_, _, _, _, rfl, ?_⟩; (conv => whnf))
      | (rw [e1]; (conv => whnf))
      | (refine And.intro (fun c => ?_) (fun c => ?_) <;> (first | (exact absurd c (by decide +kernel)) | (conv => whnf)))
      | fail)
    exact l1 0 (Nat.zero_le _) none none none (Or.inl ⟨rfl, rfl, rfl⟩)
  · rw [q_lacking] at hQ
    repeat' (first
      | ((with_reducible refine @And.intro (vp_in _ _) _ ?_ ?_); (· (first | with_reducible assumption | ((with_reducible refine t_vin ?_); decide) | ((with_reducible refine vp_in_nI ?_ ?_) <;> first | omega | decide) | (simp (disch := omega) only [xl_n, xl_m, nI_dec, nI_sb, nI_add, pk_mul]; (with_reducible refine vp_in_nI ?_ ?_) <;> first | omega | decide))); (conv => whnf))
      | (refine And.intro (by first | with_reducible assumption | exact (show tL _ = _ from rfl) | decide) ?_; (conv => whnf))
      | ((with_reducible refine @And.intro (_ = _) _ ?_ ?_); (· rfl); (conv => whnf))
      | ((with_reducible refine @And.intro (@LE.le Nat _ _ _) _ ?_ ?_); (· (first | exact Nat.zero_le _ | exact Nat.le_of_ble_eq_true rfl | omega)); (conv => whnf))
      | ((with_reducible refine @And.intro (@LT.lt Nat _ _ _) _ ?_ ?_); (· omega); (conv => whnf))
      | ((with_reducible refine @And.intro (∃ _, _ = _) _ ?_ ?_); (· exact ⟨_, rfl⟩); (conv => whnf))
      | ((with_reducible refine @And.intro (_ ∨ _) _ ?_ ?_); (· (first | exact Or.inl rfl | exact Or.inr rfl | exact t_b01 _ | assumption)); (conv => whnf))
      | ((with_reducible refine @And.intro (¬ (_ = _)) _ ?_ ?_); (· first | assumption | (with_reducible assumption)); (conv => whnf))
      | (refine hX _ _ _ _ _ _ ?_; (conv => whnf); fail_if_success show False)
      | (rw [t_si]; (conv => whnf))
      | (refine ⟨_, rfl, ?_⟩; (conv => whnf))
      | (refine ⟨_, _, rfl, ?_⟩; (conv => whnf))
      | (refine ⟨_, _, _, rfl, ?_⟩; (conv => whnf))
      | (refine ⟨_, _, _, _, rfl, ?_⟩; (conv => whnf))
      | (rw [e1]; (conv => whnf))
      | (refine And.intro (fun c => ?_) (fun c => ?_) <;> (first | (exact absurd c (by decide +kernel)) | (conv => whnf)))
      | fail)
    exact t_ref' hQ hg h01 (by simp [f1]) (by decide) rfl rfl
theorem ct_X11_lacking {Iv : xI} (hI : xm_good Iv) : xm_Ct Iv yX11_lacking (ws_ yX11_lacking cX11_lacking 8 (some .int)) 4 0 0 S_X11_lacking := xm_enter (rt := 0) (init := false) (by decide +kernel) rfl (fun h => by cases h) (Or.inl ⟨rfl, rfl⟩) (oX11_lacking hI) body_X11_lacking
theorem cv_X11_lacking {Iv : xI} {own : String} {cc : ByteArray} {fr pc idx : Nat} (hI : xm_good Iv) (hdg : decode cc pc = .ok (.invokevirtual idx, 3)) (hl : xm_ml own idx yX11_lacking) (hfr : 4 < fr) : xm_CallOK Iv own cc fr pc (pc + 3) 2 0 0 (xm_this 8 S_X11_lacking) := xm_callV 8 hI (ct_X11_lacking hI) hdg hl q2485 q2486 q145 q2487 rfl rfl (by decide +kernel) hfr (by decide)
