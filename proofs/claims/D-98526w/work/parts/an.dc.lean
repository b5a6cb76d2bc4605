/-! ===== the component: casts gone through ===== -/
set_option maxRecDepth 100000
set_option maxHeartbeats 4000000
theorem t_m9_s {k : Nat} (h : k < 511) : t_m9 (nI (k + 1)) := ⟨k + 1, by omega, rfl⟩
def S_X1_castsOn (d : Nat) : xS := match d with
  | 0 => fun _ _ _ _ => False
  | d + 1 => cU fun as P Z I Q QX => ∃ (a : Nat) (L : List lC) (T : gT) (al left used : Int32) (most : Nat) (pre : List Int32) (rest : gP) (s : cC), as = [.ref 0, .ref (80 + a), .int (nI pre.length), .int left, .int used, .int (nI most)] ∧ c_good P Z I L ∧ g_ok (cG P I L) ∧ a < P.1 ∧ pre.length + rest.length = gmany (cG P I L) a ∧ rest.length ≤ d ∧ (∀ i p l, rest[i]? = some (p, l) → p = gpup (cG P I L) a (pre.length + i) ∧ l ≤ gs T p) ∧ c_lu (cG P I L) al left used ∧ c_cst I (gmany (cG P I L) a) s ∧ s.1 ≤ most ∧ most ≤ 1000000 ∧ (∀ j v, pre[j]? = some v → I 17 j = v) ∧
    ∀ J, c_cf I J → (∀ j, j < pre.length → J 17 j = I 17 j) → c_cst J (gmany (cG P I L) a) (c_run most ((g_cs (cG P I L) T al rest used).map (pre ++ ·)) s) → Q none J
abbrev bX1_castsOn_0 : List xE := [(.aload_n 0, 1, 0, 0, 0), (.getfield 325, 4, 0, 19, 0), (.iload 5, 6, 0, 0, 0), (.if_icmp .lt 4, 9, 0, 10, 0), (.return_, 10, 0, 0, 0)]
abbrev bX1_castsOn_10 : List xE := [(.iload_n 2, 11, 0, 0, 0), (.aload_n 1, 12, 0, 0, 0), (.getfield 328, 15, 11, 2, 0), (.if_icmp .ne 36, 18, 0, 51, 0), (.aload_n 0, 19, 0, 0, 0), (.getfield 325, 22, 0, 19, 0), (.ifCond .ne 18, 25, 0, 40, 0), (.aload_n 0, 26, 0, 0, 0), (.getfield 83, 29, 0, 17, 1), (.iconst 0, 30, 0, 0, 0), (.aload_n 0, 31, 0, 0, 0), (.getfield 86, 34, 0, 18, 1), (.iconst 0, 35, 0, 0, 0), (.bipush 6, 37, 0, 0, 0), (.invokestatic 192, 40, 0, 0, 9)]
abbrev bX1_castsOn_40 : List xE := [(.aload_n 0, 41, 0, 0, 0), (.dup, 42, 0, 0, 0), (.getfield 325, 45, 0, 19, 0), (.iconst 1, 46, 0, 0, 0), (.iadd, 47, 0, 0, 0), (.putfield 325, 50, 0, 19, 0), (.return_, 51, 0, 0, 0)]
abbrev bX1_castsOn_51 : List xE := [(.aload_n 1, 52, 0, 0, 0), (.getfield 331, 55, 11, 1, 1), (.iload_n 2, 56, 0, 0, 0), (.iaload, 57, 0, 0, 0), (.istore 6, 59, 0, 0, 0), (.iload_n 3, 60, 0, 0, 0), (.aload_n 0, 61, 0, 0, 0), (.getfield 31, 64, 0, 0, 1), (.getfield 334, 67, 1, 9, 1), (.iload 6, 69, 0, 0, 0), (.iaload, 70, 0, 0, 0), (.iconst (-1), 71, 0, 0, 0), (.ixor, 72, 0, 0, 0), (.iand, 73, 0, 0, 0), (.istore 7, 75, 0, 0, 0), (.iconst 1, 76, 0, 0, 0), (.istore 8, 78, 0, 0, 0)]
abbrev bX1_castsOn_78 : List xE := [(.iload 8, 80, 0, 0, 0), (.sipush 512, 83, 0, 0, 0), (.if_icmp .ge 81, 86, 0, 164, 0), (.iload 8, 88, 0, 0, 0), (.iload 7, 90, 0, 0, 0), (.iconst (-1), 91, 0, 0, 0), (.ixor, 92, 0, 0, 0), (.iand, 93, 0, 0, 0), (.ifCond .ne 65, 96, 0, 158, 0), (.iload 8, 98, 0, 0, 0), (.invokestatic 207, 101, 0, 1, 9), (.aload_n 0, 102, 0, 0, 0), (.getfield 31, 105, 0, 0, 1), (.getfield 244, 108, 1, 6, 1), (.iload 6, 110, 0, 0, 0), (.iaload, 111, 0, 0, 0), (.if_icmp .ne 47, 114, 0, 158, 0), (.aload_n 0, 115, 0, 0, 0), (.iload 4, 117, 0, 0, 0), (.iload 8, 119, 0, 0, 0), (.ior, 120, 0, 0, 0), (.invokevirtual 337, 123, 0, 2, 9), (.ifCond .eq 6, 126, 0, 129, 0), (.goto 32, 129, 0, 158, 0)]
abbrev bX1_castsOn_129 : List xE := [(.aload_n 0, 130, 0, 0, 0), (.getfield 83, 133, 0, 17, 1), (.iload_n 2, 134, 0, 0, 0), (.iload 8, 136, 0, 0, 0), (.iastore, 137, 0, 0, 0), (.aload_n 0, 138, 0, 0, 0), (.aload_n 1, 139, 0, 0, 0), (.iload_n 2, 140, 0, 0, 0), (.iconst 1, 141, 0, 0, 0), (.iadd, 142, 0, 0, 0), (.iload_n 3, 143, 0, 0, 0), (.iload 8, 145, 0, 0, 0), (.iconst (-1), 146, 0, 0, 0), (.ixor, 147, 0, 0, 0), (.iand, 148, 0, 0, 0), (.iload 4, 150, 0, 0, 0), (.iload 8, 152, 0, 0, 0), (.ior, 153, 0, 0, 0), (.iload 5, 155, 0, 0, 0), (.invokevirtual 340, 158, 0, 3, 9)]
abbrev bX1_castsOn_158 : List xE := [(.iinc 8 1, 161, 0, 0, 0), (.goto (-83), 164, 0, 78, 0)]
abbrev bX1_castsOn_164 : List xE := [(.return_, 165, 0, 0, 0)]
abbrev kX1_castsOn : List (Nat × List xE) := [(0, bX1_castsOn_0), (10, bX1_castsOn_10), (40, bX1_castsOn_40), (51, bX1_castsOn_51), (78, bX1_castsOn_78), (129, bX1_castsOn_129), (158, bX1_castsOn_158), (164, bX1_castsOn_164)]
abbrev lX1_castsOn (d : Nat) : List (Nat × Nat × Nat × xS) := [(5, 0, 0, S_acp), (1, 0, 0, S_J16_bitCount), (2, 0, 0, xm_this 0 S_X1_isSilent), (6, 0, 0, (xm_this 0 (S_X1_castsOn d)))]
theorem oX1_castsOn_0 (d : Nat)  (ih_X1_castsOn : xm_Ct cI yX1_castsOn (ws_ yX1_castsOn cX1_castsOn 9 none) (d + 9) 0 0 (S_X1_castsOn d)): xm_okb cI RX1 cX1_castsOn false (d + 10) (lX1_castsOn d) bX1_castsOn_0 0 := xo_0 dX1_castsOn_0 rfl trivial (xo_0 dX1_castsOn_1 rfl (xm_fg_of (Or.inl q738) (by decide) rfl (by decide) rfl rfl (Or.inl rfl) rfl) (xo_0 dX1_castsOn_4 rfl trivial (xo_0 dX1_castsOn_6 rfl rfl (xo_0 dX1_castsOn_9 rfl trivial (xo_n)))))
theorem oX1_castsOn_10 (d : Nat)  (ih_X1_castsOn : xm_Ct cI yX1_castsOn (ws_ yX1_castsOn cX1_castsOn 9 none) (d + 9) 0 0 (S_X1_castsOn d)): xm_okb cI RX1 cX1_castsOn false (d + 10) (lX1_castsOn d) bX1_castsOn_10 10 := xo_0 dX1_castsOn_10 rfl trivial (xo_0 dX1_castsOn_11 rfl trivial (xo_0 dX1_castsOn_12 rfl (xm_fg_of (Or.inr ⟨_, q1307⟩) (by decide) rfl (by decide) rfl rfl (Or.inl rfl) rfl) (xo_0 dX1_castsOn_15 rfl rfl (xo_0 dX1_castsOn_18 rfl trivial (xo_0 dX1_castsOn_19 rfl (xm_fg_of (Or.inl q738) (by decide) rfl (by decide) rfl rfl (Or.inl rfl) rfl) (xo_0 dX1_castsOn_22 rfl rfl (xo_0 dX1_castsOn_25 rfl trivial (xo_1 dX1_castsOn_26 rfl (xm_fg_of (Or.inl q736) (by decide) rfl (by decide) rfl rfl (Or.inl rfl) rfl) (xo_0 dX1_castsOn_29 rfl trivial (xo_0 dX1_castsOn_30 rfl trivial (xo_1 dX1_castsOn_31 rfl (xm_fg_of (Or.inl q737) (by decide) rfl (by decide) rfl rfl (Or.inl rfl) rfl) (xo_0 dX1_castsOn_34 rfl trivial (xo_0 dX1_castsOn_35 rfl (xo_bipush (by decide +kernel)) (xo_c rfl (xc_acp dX1_castsOn_37 q845 (by omega)) (xo_n)))))))))))))))
theorem oX1_castsOn_40 (d : Nat)  (ih_X1_castsOn : xm_Ct cI yX1_castsOn (ws_ yX1_castsOn cX1_castsOn 9 none) (d + 9) 0 0 (S_X1_castsOn d)): xm_okb cI RX1 cX1_castsOn false (d + 10) (lX1_castsOn d) bX1_castsOn_40 40 := xo_0 dX1_castsOn_40 rfl trivial (xo_0 dX1_castsOn_41 rfl trivial (xo_0 dX1_castsOn_42 rfl (xm_fg_of (Or.inl q738) (by decide) rfl (by decide) rfl rfl (Or.inl rfl) rfl) (xo_0 dX1_castsOn_45 rfl trivial (xo_0 dX1_castsOn_46 rfl trivial (xo_0 dX1_castsOn_47 rfl (xm_fp_of (xm_fg_of (Or.inl q738) (by decide) rfl (by decide) rfl rfl (Or.inl rfl) rfl) (by decide) rfl (Or.inl ⟨rfl, rfl⟩) rfl) (xo_0 dX1_castsOn_50 rfl trivial (xo_n)))))))
theorem oX1_castsOn_51 (d : Nat)  (ih_X1_castsOn : xm_Ct cI yX1_castsOn (ws_ yX1_castsOn cX1_castsOn 9 none) (d + 9) 0 0 (S_X1_castsOn d)): xm_okb cI RX1 cX1_castsOn false (d + 10) (lX1_castsOn d) bX1_castsOn_51 51 := xo_0 dX1_castsOn_51 rfl trivial (xo_1 dX1_castsOn_52 rfl (xm_fg_of (Or.inr ⟨_, q1304⟩) (by decide) rfl (by decide) rfl rfl (Or.inl rfl) rfl) (xo_0 dX1_castsOn_55 rfl trivial (xo_0 dX1_castsOn_56 rfl trivial (xo_0 dX1_castsOn_57 rfl trivial (xo_0 dX1_castsOn_59 rfl trivial (xo_0 dX1_castsOn_60 rfl trivial (xo_1 dX1_castsOn_61 rfl (xm_fg_of (Or.inl q716) (by decide) rfl (by decide) rfl rfl (Or.inl rfl) rfl) (xo_1 dX1_castsOn_64 rfl (xm_fg_of (Or.inr ⟨_, q549⟩) (by decide) rfl (by decide) rfl rfl (Or.inl rfl) rfl) (xo_0 dX1_castsOn_67 rfl trivial (xo_0 dX1_castsOn_69 rfl trivial (xo_0 dX1_castsOn_70 rfl trivial (xo_0 dX1_castsOn_71 rfl trivial (xo_0 dX1_castsOn_72 rfl trivial (xo_0 dX1_castsOn_73 rfl trivial (xo_0 dX1_castsOn_75 rfl trivial (xo_0 dX1_castsOn_76 rfl trivial (xo_n)))))))))))))))))
theorem oX1_castsOn_78 (d : Nat)  (ih_X1_castsOn : xm_Ct cI yX1_castsOn (ws_ yX1_castsOn cX1_castsOn 9 none) (d + 9) 0 0 (S_X1_castsOn d)): xm_okb cI RX1 cX1_castsOn false (d + 10) (lX1_castsOn d) bX1_castsOn_78 78 := xo_0 dX1_castsOn_78 rfl trivial (xo_0 dX1_castsOn_80 rfl (xo_sipush (by decide +kernel)) (xo_0 dX1_castsOn_83 rfl rfl (xo_0 dX1_castsOn_86 rfl trivial (xo_0 dX1_castsOn_88 rfl trivial (xo_0 dX1_castsOn_90 rfl trivial (xo_0 dX1_castsOn_91 rfl trivial (xo_0 dX1_castsOn_92 rfl trivial (xo_0 dX1_castsOn_93 rfl rfl (xo_0 dX1_castsOn_96 rfl trivial (xo_c rfl (cv_J16_bitCount dX1_castsOn_98 (Or.inl q846) (by omega)) (xo_0 dX1_castsOn_101 rfl trivial (xo_1 dX1_castsOn_102 rfl (xm_fg_of (Or.inl q716) (by decide) rfl (by decide) rfl rfl (Or.inl rfl) rfl) (xo_1 dX1_castsOn_105 rfl (xm_fg_of (Or.inr ⟨_, q539⟩) (by decide) rfl (by decide) rfl rfl (Or.inl rfl) rfl) (xo_0 dX1_castsOn_108 rfl trivial (xo_0 dX1_castsOn_110 rfl trivial (xo_0 dX1_castsOn_111 rfl rfl (xo_0 dX1_castsOn_114 rfl trivial (xo_0 dX1_castsOn_115 rfl trivial (xo_0 dX1_castsOn_117 rfl trivial (xo_0 dX1_castsOn_119 rfl trivial (xo_c rfl (cv_X1_isSilent dX1_castsOn_120 (Or.inl q852) (by omega)) (xo_0 dX1_castsOn_123 rfl rfl (xo_0 dX1_castsOn_126 rfl rfl (xo_n))))))))))))))))))))))))
theorem oX1_castsOn_129 (d : Nat)  (ih_X1_castsOn : xm_Ct cI yX1_castsOn (ws_ yX1_castsOn cX1_castsOn 9 none) (d + 9) 0 0 (S_X1_castsOn d)): xm_okb cI RX1 cX1_castsOn false (d + 10) (lX1_castsOn d) bX1_castsOn_129 129 := xo_0 dX1_castsOn_129 rfl trivial (xo_1 dX1_castsOn_130 rfl (xm_fg_of (Or.inl q736) (by decide) rfl (by decide) rfl rfl (Or.inl rfl) rfl) (xo_0 dX1_castsOn_133 rfl trivial (xo_0 dX1_castsOn_134 rfl trivial (xo_0 dX1_castsOn_136 rfl trivial (xo_0 dX1_castsOn_137 rfl trivial (xo_0 dX1_castsOn_138 rfl trivial (xo_0 dX1_castsOn_139 rfl trivial (xo_0 dX1_castsOn_140 rfl trivial (xo_0 dX1_castsOn_141 rfl trivial (xo_0 dX1_castsOn_142 rfl trivial (xo_0 dX1_castsOn_143 rfl trivial (xo_0 dX1_castsOn_145 rfl trivial (xo_0 dX1_castsOn_146 rfl trivial (xo_0 dX1_castsOn_147 rfl trivial (xo_0 dX1_castsOn_148 rfl trivial (xo_0 dX1_castsOn_150 rfl trivial (xo_0 dX1_castsOn_152 rfl trivial (xo_0 dX1_castsOn_153 rfl trivial (xo_c rfl (xm_callV 0 cI_good ih_X1_castsOn dX1_castsOn_155 (Or.inl q841) q843 qs8 q116 q844 rfl rfl (by decide +kernel) (by omega) (by decide)) (xo_n))))))))))))))))))))
theorem oX1_castsOn_158 (d : Nat)  (ih_X1_castsOn : xm_Ct cI yX1_castsOn (ws_ yX1_castsOn cX1_castsOn 9 none) (d + 9) 0 0 (S_X1_castsOn d)): xm_okb cI RX1 cX1_castsOn false (d + 10) (lX1_castsOn d) bX1_castsOn_158 158 := xo_0 dX1_castsOn_158 rfl trivial (xo_0 dX1_castsOn_161 rfl rfl (xo_n))
theorem oX1_castsOn_164 (d : Nat)  (ih_X1_castsOn : xm_Ct cI yX1_castsOn (ws_ yX1_castsOn cX1_castsOn 9 none) (d + 9) 0 0 (S_X1_castsOn d)): xm_okb cI RX1 cX1_castsOn false (d + 10) (lX1_castsOn d) bX1_castsOn_164 164 := xo_0 dX1_castsOn_164 rfl trivial (xo_n)
theorem oX1_castsOn (d : Nat)  (ih_X1_castsOn : xm_Ct cI yX1_castsOn (ws_ yX1_castsOn cX1_castsOn 9 none) (d + 9) 0 0 (S_X1_castsOn d)): ∀ q ∈ kX1_castsOn, xm_okb cI RX1 cX1_castsOn false (d + 10) (lX1_castsOn d) q.2 q.1 := by
  intro q hq
  simp only [List.mem_cons, List.not_mem_nil, or_false] at hq
  rcases hq with rfl | rfl | rfl | rfl | rfl | rfl | rfl | rfl
  · exact oX1_castsOn_0 d  ih_X1_castsOn
  · exact oX1_castsOn_10 d  ih_X1_castsOn
  · exact oX1_castsOn_40 d  ih_X1_castsOn
  · exact oX1_castsOn_51 d  ih_X1_castsOn
  · exact oX1_castsOn_78 d  ih_X1_castsOn
  · exact oX1_castsOn_129 d  ih_X1_castsOn
  · exact oX1_castsOn_158 d  ih_X1_castsOn
  · exact oX1_castsOn_164 d  ih_X1_castsOn
theorem body_X1_castsOn (d : Nat) : xm_Body 9 2 0 0 [] (lX1_castsOn d) kX1_castsOn (S_X1_castsOn (d + 1)) := by
  intro X avs w Q QX hX0 hS
  have hG := xm_go [] hX0
  have hX := xm_go [40,78,158] hX0
  clear hX0
  obtain ⟨P, Z, I, rfl, a, L, T, al, left, used, most, pre, rest, s, rfl, hg, hk0, ha, hlen, hd, hrest, hlu, hs, hsm, hmost, hpre, hQ⟩ := hS
  have hok := hg.ok
  obtain ⟨hn, h9, hm, h8⟩ := id hok
  have hl := hg.ls
  have h6 := hl.1
  obtain ⟨a2, a6, a3, ap⟩ := hg.2.2.2.1 a ha
  have em : gmany (cG P I L) a = c_am P I a := rfl
  have e19 : I 0 19 = nI s.1 := hs.1
  refine ⟨rfl, ?_⟩
  by_cases hw : s.1 < most
  · have dw : I 0 19 < nI most := by
      rw [e19, t_lt, nI_leI (by omega) (by omega)]
      omega
    rcases rest with _ | ⟨⟨p, l⟩, r⟩
    · have hpl : pre.length = c_am P I a := by rw [← em, ← hlen]; rfl
      have dm : nI pre.length = I (80 + a) 2 := by rw [a2, hpl]
      have x40 : ∀ M, c_cf I M → M 17 = I 17 → M 0 19 = nI s.1 → (∀ j, j < gmany (cG P I L) a → M 18 j = if s.1 = 0 then pre.getD j (nI 0) else s.2 j) → X 40 [some (.ref 0), some (.ref (80 + a)), some (.int (nI pre.length)), some (.int left), some (.int used), some (.int (nI most)), none, none, none] [] (cW P Z M) 0 0 := fun M hM e17 e0 h18 => by
        have e1 : (cW P Z M).2.1 0 19 + Int32.ofInt 1 = nI (s.1 + 1) := by
          show M 0 19 + _ = _
          rw [e0, xl_n.2.1, nI_add]
        refine hG _ _ _ _ _ _ ?_
        (conv => whnf)
        repeat' (first
          | ((with_reducible refine @And.intro (vp_in _ _) _ ?_ ?_); (· (first | with_reducible assumption | ((with_reducible refine t_vin ?_); decide) | ((with_reducible refine vp_in_nI ?_ ?_) <;> first | omega | decide) | (simp (disch := omega) only [xl_n, xl_m, nI_dec, nI_sb, nI_add, pk_mul]; (with_reducible refine vp_in_nI ?_ ?_) <;> first | omega | decide))); (conv => whnf))
          | (refine And.intro (by first | with_reducible assumption | exact (show cL _ _ = _ from rfl) | decide) ?_; (conv => whnf))
          | ((with_reducible refine @And.intro (_ = _) _ ?_ ?_); (· rfl); (conv => whnf))
          | ((with_reducible refine @And.intro (@LE.le Nat _ _ _) _ ?_ ?_); (· (first | exact Nat.zero_le _ | exact Nat.le_of_ble_eq_true rfl | omega)); (conv => whnf))
          | ((with_reducible refine @And.intro (@LT.lt Nat _ _ _) _ ?_ ?_); (· omega); (conv => whnf))
          | ((with_reducible refine @And.intro (∃ _, _ = _) _ ?_ ?_); (· exact ⟨_, rfl⟩); (conv => whnf))
          | ((with_reducible refine @And.intro (_ ∨ _) _ ?_ ?_); (· (first | exact Or.inl rfl | exact Or.inr rfl | exact t_b01 _ | assumption)); (conv => whnf))
          | ((with_reducible refine @And.intro (¬ (_ = _)) _ ?_ ?_); (· first | assumption | (with_reducible assumption)); (conv => whnf))
          | (refine hX _ _ _ _ _ _ ?_; (conv => whnf); fail_if_success show False)
          | (rw [c_si]; (conv => whnf))
          | (refine ⟨_, rfl, ?_⟩; (conv => whnf))
          | (refine ⟨_, _, rfl, ?_⟩; (conv => whnf))
          | (refine ⟨_, _, _, rfl, ?_⟩; (conv => whnf))
          | (refine ⟨_, _, _, _, rfl, ?_⟩; (conv => whnf))
          | (refine And.intro (fun c => ?_) (fun c => ?_) <;> (first | (exact absurd c (by decide +kernel)) | (conv => whnf)))
          | fail)
        refine hQ _ (hM.tr c_cf.uf) (fun j _ => ?_) ?_
        · rw [xm_u2_ne (by decide), e17]
        · rw [g_cs_n, List.map_cons, List.map_nil, List.append_nil]
          show c_cst _ _ (c_do most s pre)
          unfold c_do
          rw [if_neg (by omega)]
          refine ⟨by rw [xm_u2_at, if_pos rfl]; exact e1, fun j hj => ?_⟩
          rw [xm_u2_ne (by decide), h18 j hj]
          by_cases w0 : s.1 = 0
          · rw [if_pos w0, if_pos w0]
          · rw [if_neg w0, if_neg w0]
      by_cases w0 : s.1 = 0
      · have d0 : I 0 19 = 0 := by rw [e19, w0]; rfl
        have x := x40 (c_ua I 18 (va_cpy (I 17) (I 18) 0 0 6)) c_cf.ua (funext fun j => if_neg (by decide)) ((if_neg (by decide)).trans e19) (fun j hj => by
          rw [if_pos w0]
          show (if (18 : Nat) = 18 then _ else _) = _
          rw [if_pos rfl, pk_cpy_in (Nat.zero_le _) (by omega)]
          have hj2 : j < pre.length := by omega
          rw [show 0 + (j - 0) = j by omega, hpre j pre[j] (List.getElem?_eq_getElem hj2)]
          simp [List.getD, hj2])
        clear x40
        repeat' (first
          | (refine ⟨17,18,0,0,6,6,6,rfl,rfl,rfl,(by decide),(by decide),(by decide),(by decide),?_⟩; (conv => whnf))
          | (rw [c_sa]; (conv => whnf))
          | ((with_reducible refine @And.intro (vp_in _ _) _ ?_ ?_); (· (first | with_reducible assumption | ((with_reducible refine t_vin ?_); decide) | ((with_reducible refine vp_in_nI ?_ ?_) <;> first | omega | decide) | (simp (disch := omega) only [xl_n, xl_m, nI_dec, nI_sb, nI_add, pk_mul]; (with_reducible refine vp_in_nI ?_ ?_) <;> first | omega | decide))); (conv => whnf))
          | (refine And.intro (by first | with_reducible assumption | exact (show cL _ _ = _ from rfl) | decide) ?_; (conv => whnf))
          | ((with_reducible refine @And.intro (_ = _) _ ?_ ?_); (· rfl); (conv => whnf))
          | ((with_reducible refine @And.intro (@LE.le Nat _ _ _) _ ?_ ?_); (· (first | exact Nat.zero_le _ | exact Nat.le_of_ble_eq_true rfl | omega)); (conv => whnf))
          | ((with_reducible refine @And.intro (@LT.lt Nat _ _ _) _ ?_ ?_); (· omega); (conv => whnf))
          | ((with_reducible refine @And.intro (∃ _, _ = _) _ ?_ ?_); (· exact ⟨_, rfl⟩); (conv => whnf))
          | ((with_reducible refine @And.intro (_ ∨ _) _ ?_ ?_); (· (first | exact Or.inl rfl | exact Or.inr rfl | exact t_b01 _ | assumption)); (conv => whnf))
          | ((with_reducible refine @And.intro (¬ (_ = _)) _ ?_ ?_); (· first | assumption | (with_reducible assumption)); (conv => whnf))
          | (refine hX _ _ _ _ _ _ ?_; (conv => whnf); fail_if_success show False)
          | (rw [c_si]; (conv => whnf))
          | (refine ⟨_, rfl, ?_⟩; (conv => whnf))
          | (refine ⟨_, _, rfl, ?_⟩; (conv => whnf))
          | (refine ⟨_, _, _, rfl, ?_⟩; (conv => whnf))
          | (refine ⟨_, _, _, _, rfl, ?_⟩; (conv => whnf))
          | (rw [c_ac ha h6]; (conv => whnf))
          | (refine And.intro (fun c => ?_) (fun c => ?_) <;> (first | (exact absurd c (by decide +kernel)) | (exact absurd c (by assumption)) | (exact False.elim (c (by assumption))) | (conv => whnf)))
          | fail)
        exact x
      · have d0 : ¬ I 0 19 = 0 := by
          rw [e19, xl_0, nI_eq (by omega) (by omega)]
          exact w0
        have x := x40 I c_cf.rf rfl e19 (fun j hj => by rw [if_neg w0]; exact hs.2 j hj)
        clear x40
        repeat' (first
          | ((with_reducible refine @And.intro (vp_in _ _) _ ?_ ?_); (· (first | with_reducible assumption | ((with_reducible refine t_vin ?_); decide) | ((with_reducible refine vp_in_nI ?_ ?_) <;> first | omega | decide) | (simp (disch := omega) only [xl_n, xl_m, nI_dec, nI_sb, nI_add, pk_mul]; (with_reducible refine vp_in_nI ?_ ?_) <;> first | omega | decide))); (conv => whnf))
          | (refine And.intro (by first | with_reducible assumption | exact (show cL _ _ = _ from rfl) | decide) ?_; (conv => whnf))
          | ((with_reducible refine @And.intro (_ = _) _ ?_ ?_); (· rfl); (conv => whnf))
          | ((with_reducible refine @And.intro (@LE.le Nat _ _ _) _ ?_ ?_); (· (first | exact Nat.zero_le _ | exact Nat.le_of_ble_eq_true rfl | omega)); (conv => whnf))
          | ((with_reducible refine @And.intro (@LT.lt Nat _ _ _) _ ?_ ?_); (· omega); (conv => whnf))
          | ((with_reducible refine @And.intro (∃ _, _ = _) _ ?_ ?_); (· exact ⟨_, rfl⟩); (conv => whnf))
          | ((with_reducible refine @And.intro (_ ∨ _) _ ?_ ?_); (· (first | exact Or.inl rfl | exact Or.inr rfl | exact t_b01 _ | assumption)); (conv => whnf))
          | ((with_reducible refine @And.intro (¬ (_ = _)) _ ?_ ?_); (· first | assumption | (with_reducible assumption)); (conv => whnf))
          | (refine hX _ _ _ _ _ _ ?_; (conv => whnf); fail_if_success show False)
          | (rw [c_si]; (conv => whnf))
          | (refine ⟨_, rfl, ?_⟩; (conv => whnf))
          | (refine ⟨_, _, rfl, ?_⟩; (conv => whnf))
          | (refine ⟨_, _, _, rfl, ?_⟩; (conv => whnf))
          | (refine ⟨_, _, _, _, rfl, ?_⟩; (conv => whnf))
          | (rw [c_ac ha h6]; (conv => whnf))
          | (refine And.intro (fun c => ?_) (fun c => ?_) <;> (first | (exact absurd c (by decide +kernel)) | (exact absurd c (by assumption)) | (exact False.elim (c (by assumption))) | (conv => whnf)))
          | fail)
        exact x
    · obtain ⟨d', rfl⟩ : ∃ d', d = d' + 1 := ⟨d - 1, by simp at hd; omega⟩
      have hpl : pre.length < c_am P I a := by
        rw [List.length_cons] at hlen
        omega
      have dm : ¬ nI pre.length = I (80 + a) 2 := by
        rw [a2, nI_eq (by omega) (by omega)]
        omega
      obtain ⟨ep, hstr⟩ := hrest 0 p l rfl
      obtain ⟨q, hq, eq⟩ := ap pre.length hpl
      have epq : p = q := by
        rw [ep]
        show (if pre.length + 0 < c_am P I a then (I (90 + a) (pre.length + 0)).toNatClampNeg else 0) = q
        rw [Nat.add_zero, if_pos hpl, eq, nI_clamp (by omega)]
      subst epq
      have hr' : ∀ v : Int32, (pre ++ [v]).length = pre.length + 1 := fun v => by rw [List.length_append]; rfl
      have hp8 : p < 8 := by omega
      have equar : gquar (gGK (cG P I L)) p = I 39 p := cK_quar hq
      have eneed : gneeds (gGK (cG P I L)) p = I 36 p := cK_needs hq
      -- set by set
      have l2 : ∀ k, k ≤ 511 → ∀ M, c_cf I M → (∀ j, j < pre.length → M 17 j = I 17 j) → c_cst M (gmany (cG P I L) a) (c_run most (g_part (cG P I L) T al p r used pre k) s) → X 78 [some (.ref 0), some (.ref (80 + a)), some (.int (nI pre.length)), some (.int left), some (.int used), some (.int (nI most)), some (.int (nI p)), some (.int (left &&& (I 39 p ^^^ nM))), some (.int (nI (k + 1)))] [] (cW P Z M) 0 0 := by
        refine t_for fun k h1 ih M hM h17 hst => ?_
        have hsp := hM.sp
        have hgM := hsp.good hg
        have hkM : g_ok (cG P M L) := by rw [hsp.G hg]; exact hk0
        have hokM := hgM.ok
        have eG := hsp.G hg
        by_cases hk : k = 511
        · subst hk
          have d1 : Int32.ofInt 512 ≤ nI (511 + 1) := by decide +kernel
          clear ih
          refine hG _ _ _ _ _ _ ?_
          (conv => whnf)
          repeat' (first
            | ((with_reducible refine @And.intro (vp_in _ _) _ ?_ ?_); (· (first | with_reducible assumption | ((with_reducible refine t_vin ?_); decide) | ((with_reducible refine vp_in_nI ?_ ?_) <;> first | omega | decide) | (simp (disch := omega) only [xl_n, xl_m, nI_dec, nI_sb, nI_add, pk_mul]; (with_reducible refine vp_in_nI ?_ ?_) <;> first | omega | decide))); (conv => whnf))
            | (refine And.intro (by first | with_reducible assumption | exact (show cL _ _ = _ from rfl) | decide) ?_; (conv => whnf))
            | ((with_reducible refine @And.intro (_ = _) _ ?_ ?_); (· rfl); (conv => whnf))
            | ((with_reducible refine @And.intro (@LE.le Nat _ _ _) _ ?_ ?_); (· (first | exact Nat.zero_le _ | exact Nat.le_of_ble_eq_true rfl | omega)); (conv => whnf))
            | ((with_reducible refine @And.intro (@LT.lt Nat _ _ _) _ ?_ ?_); (· omega); (conv => whnf))
            | ((with_reducible refine @And.intro (∃ _, _ = _) _ ?_ ?_); (· exact ⟨_, rfl⟩); (conv => whnf))
            | ((with_reducible refine @And.intro (_ ∨ _) _ ?_ ?_); (· (first | exact Or.inl rfl | exact Or.inr rfl | exact t_b01 _ | assumption)); (conv => whnf))
            | ((with_reducible refine @And.intro (¬ (_ = _)) _ ?_ ?_); (· first | assumption | (with_reducible assumption)); (conv => whnf))
            | (refine hX _ _ _ _ _ _ ?_; (conv => whnf); fail_if_success show False)
            | (rw [c_si]; (conv => whnf))
            | (refine ⟨_, rfl, ?_⟩; (conv => whnf))
            | (refine ⟨_, _, rfl, ?_⟩; (conv => whnf))
            | (refine ⟨_, _, _, rfl, ?_⟩; (conv => whnf))
            | (refine ⟨_, _, _, _, rfl, ?_⟩; (conv => whnf))
            | (refine And.intro (fun c => ?_) (fun c => ?_) <;> (first | (exact absurd c (by decide +kernel)) | (exact absurd c (by assumption)) | (exact False.elim (c (by assumption))) | (conv => whnf)))
            | fail)
          refine hQ M hM h17 ?_
          rw [g_cs_c, if_pos hstr]
          unfold g_part at hst
          rw [g_sets_511 (G := cG P I L) h9 hlu.2.2] at hst
          exact hst
        · have d1 : ¬ Int32.ofInt 512 ≤ nI (k + 1) := by
            rw [show Int32.ofInt 512 = nI 512 by decide +kernel, nI_leI (by omega) (by omega)]
            omega
          have e39 : M 39 p = I 39 p := by rw [hM.1 39 (by omega) (by omega) (by omega)]
          have e36 : M 36 p = I 36 p := by rw [hM.1 36 (by omega) (by omega) (by omega)]
          have eflt : c_flt (cG P I L) left used p (nI (k + 1)) = (decide (nI (k + 1) &&& ((left &&& (I 39 p ^^^ nM)) ^^^ nM) = nI 0) && decide (t_ones (nI (k + 1)) = I 36 p) && !g_sil (cG P I L) (used ||| nI (k + 1))) := by
            unfold c_flt
            rw [equar, eneed]
          have ecan := c_flt_eq (p := p) (s := nI (k + 1)) hk0.2.1 h9 hlu
          have m9 := t_m9_s (k := k) (by omega)
          have x158 : ∀ N, c_cf I N → (∀ j, j < pre.length → N 17 j = I 17 j) → c_cst N (gmany (cG P I L) a) (c_run most (g_part (cG P I L) T al p r used pre (k + 1)) s) → X 158 [some (.ref 0), some (.ref (80 + a)), some (.int (nI pre.length)), some (.int left), some (.int used), some (.int (nI most)), some (.int (nI p)), some (.int (left &&& (I 39 p ^^^ nM))), some (.int (nI (k + 1)))] [] (cW P Z N) 0 0 := fun N h1 h2 h3 => by
            have := ih (k + 1) (by omega) (by omega) N h1 h2 h3
            clear ih
            refine hG _ _ _ _ _ _ ?_
            (conv => whnf)
            repeat' (first
              | ((with_reducible refine @And.intro (vp_in _ _) _ ?_ ?_); (· (first | with_reducible assumption | ((with_reducible refine t_vin ?_); decide) | ((with_reducible refine vp_in_nI ?_ ?_) <;> first | omega | decide) | (simp (disch := omega) only [xl_n, xl_m, nI_dec, nI_sb, nI_add, pk_mul]; (with_reducible refine vp_in_nI ?_ ?_) <;> first | omega | decide))); (conv => whnf))
              | (refine And.intro (by first | with_reducible assumption | exact (show cL _ _ = _ from rfl) | decide) ?_; (conv => whnf))
              | ((with_reducible refine @And.intro (_ = _) _ ?_ ?_); (· rfl); (conv => whnf))
              | ((with_reducible refine @And.intro (@LE.le Nat _ _ _) _ ?_ ?_); (· (first | exact Nat.zero_le _ | exact Nat.le_of_ble_eq_true rfl | omega)); (conv => whnf))
              | ((with_reducible refine @And.intro (@LT.lt Nat _ _ _) _ ?_ ?_); (· omega); (conv => whnf))
              | ((with_reducible refine @And.intro (∃ _, _ = _) _ ?_ ?_); (· exact ⟨_, rfl⟩); (conv => whnf))
              | ((with_reducible refine @And.intro (_ ∨ _) _ ?_ ?_); (· (first | exact Or.inl rfl | exact Or.inr rfl | exact t_b01 _ | assumption)); (conv => whnf))
              | ((with_reducible refine @And.intro (¬ (_ = _)) _ ?_ ?_); (· first | assumption | (with_reducible assumption)); (conv => whnf))
              | (refine hX _ _ _ _ _ _ ?_; (conv => whnf); fail_if_success show False)
              | (rw [c_si]; (conv => whnf))
              | (refine ⟨_, rfl, ?_⟩; (conv => whnf))
              | (refine ⟨_, _, rfl, ?_⟩; (conv => whnf))
              | (refine ⟨_, _, _, rfl, ?_⟩; (conv => whnf))
              | (refine ⟨_, _, _, _, rfl, ?_⟩; (conv => whnf))
              | (refine And.intro (fun c => ?_) (fun c => ?_) <;> (first | (exact absurd c (by decide +kernel)) | (conv => whnf)))
              | fail)
            clear hX hG hQ
            simp (disch := omega) only [xl_n, xl_m, nI_dec, nI_sb, xl_0, xl_1, cW_i, Nat.add_zero, Nat.reduceAdd, Nat.reduceMul, t_bn0, t_bn1, Classical.not_not, t_lt, nI_add, nI_1, pk_mul, nI_clamp, c_si, nI_eq, nI_leI, nM_ne, nM_ne, xm_set] at *
            exact this
          clear ih
          have stay : c_flt (cG P I L) left used p (nI (k + 1)) = false → X 158 [some (.ref 0), some (.ref (80 + a)), some (.int (nI pre.length)), some (.int left), some (.int used), some (.int (nI most)), some (.int (nI p)), some (.int (left &&& (I 39 p ^^^ nM))), some (.int (nI (k + 1)))] [] (cW P Z M) 0 0 := fun e => by
            refine x158 M hM h17 ?_
            rw [g_part_s, ← ecan, e]
            exact hst
          by_cases f1 : nI (k + 1) &&& ((left &&& (I 39 p ^^^ nM)) ^^^ nM) = nI 0
          · have g1 : nI (k + 1) &&& ((left &&& (I 39 p ^^^ nM)) ^^^ Int32.ofInt (-1)) = 0 := f1
            have b36 : M 36 (nI p).toNatClampNeg = I 36 p := by rw [nI_clamp (by omega), e36]
            by_cases f2 : t_ones (nI (k + 1)) = I 36 p
            · have g2 : t_ones (nI (k + 1)) = M 36 (nI p).toNatClampNeg := by rw [b36]; exact f2
              cases f3 : g_sil (cG P I L) (used ||| nI (k + 1)) with
              | true =>
                have fin := stay (by rw [eflt, f3, Bool.not_true, Bool.and_false])
                have g3 : ¬ t_b (g_sil (cG P M L) (used ||| nI (k + 1))) = 0 := by
                  rw [eG, f3]
                  decide +kernel
                clear x158 stay
                refine hG _ _ _ _ _ _ ?_
                (conv => whnf)
                repeat' (first
                  | ((with_reducible refine @And.intro (vp_in _ _) _ ?_ ?_); (· (first | with_reducible assumption | ((with_reducible refine t_vin ?_); decide) | ((with_reducible refine vp_in_nI ?_ ?_) <;> first | omega | decide) | (simp (disch := omega) only [xl_n, xl_m, nI_dec, nI_sb, nI_add, pk_mul]; (with_reducible refine vp_in_nI ?_ ?_) <;> first | omega | decide))); (conv => whnf))
                  | (refine And.intro (by first | with_reducible assumption | exact (show cL _ _ = _ from rfl) | decide) ?_; (conv => whnf))
                  | ((with_reducible refine @And.intro (_ = _) _ ?_ ?_); (· rfl); (conv => whnf))
                  | ((with_reducible refine @And.intro (@LE.le Nat _ _ _) _ ?_ ?_); (· (first | exact Nat.zero_le _ | exact Nat.le_of_ble_eq_true rfl | omega)); (conv => whnf))
                  | ((with_reducible refine @And.intro (@LT.lt Nat _ _ _) _ ?_ ?_); (· omega); (conv => whnf))
                  | ((with_reducible refine @And.intro (∃ _, _ = _) _ ?_ ?_); (· exact ⟨_, rfl⟩); (conv => whnf))
                  | ((with_reducible refine @And.intro (_ ∨ _) _ ?_ ?_); (· (first | exact Or.inl rfl | exact Or.inr rfl | exact t_b01 _ | assumption)); (conv => whnf))
                  | ((with_reducible refine @And.intro (¬ (_ = _)) _ ?_ ?_); (· first | assumption | (with_reducible assumption)); (conv => whnf))
                  | (refine hX _ _ _ _ _ _ ?_; (conv => whnf); fail_if_success show False)
                  | (rw [c_si]; (conv => whnf))
                  | (refine ⟨_, rfl, ?_⟩; (conv => whnf))
                  | (refine ⟨_, _, rfl, ?_⟩; (conv => whnf))
                  | (refine ⟨_, _, _, rfl, ?_⟩; (conv => whnf))
                  | (refine ⟨_, _, _, _, rfl, ?_⟩; (conv => whnf))
                  | (refine ⟨nI (k+1),rfl,m9,?_⟩; (conv => whnf))
                  | (refine ⟨_,L,rfl,hokM,?_⟩; (conv => whnf))
                  | (refine And.intro (fun c => ?_) (fun c => ?_) <;> (first | (exact absurd c (by decide +kernel)) | (exact absurd c (by assumption)) | (exact False.elim (c (by assumption))) | (conv => whnf)))
                  | fail)
                exact fin
              | false =>
                have cf : c_flt (cG P I L) left used p (nI (k + 1)) = true := by rw [eflt, f3, decide_eq_true f1, decide_eq_true f2]; rfl
                have can : g_can (cG P I L) al used p (nI (k + 1)) = true := by rw [← ecan]; exact cf
                have g3 : t_b (g_sil (cG P M L) (used ||| nI (k + 1))) = 0 := by
                  rw [eG, f3]
                  decide +kernel
                clear stay
                have hF : c_cf M (xm_u2 M 17 pre.length (nI (k + 1))) := c_cf.u (Or.inl rfl)
                have hF2 := hM.tr hF
                have eG2 := hF2.sp.G hg
                have e17 : (xm_u2 M 17 pre.length (nI (k + 1))) 17 pre.length = nI (k + 1) := by rw [xm_u2_at, if_pos rfl]
                have o17 : ∀ j, j < pre.length → (xm_u2 M 17 pre.length (nI (k + 1))) 17 j = I 17 j := fun j hj => by rw [xm_u2_at, if_neg (by omega), h17 j hj]
                have ecl : (nI pre.length).toNatClampNeg = pre.length := nI_clamp (by omega)
                refine hG _ _ _ _ _ _ ?_
                (conv => whnf)
                repeat' (first
                  | ((with_reducible refine @And.intro (vp_in _ _) _ ?_ ?_); (· (first | with_reducible assumption | ((with_reducible refine t_vin ?_); decide) | ((with_reducible refine vp_in_nI ?_ ?_) <;> first | omega | decide) | (simp (disch := omega) only [xl_n, xl_m, nI_dec, nI_sb, nI_add, pk_mul]; (with_reducible refine vp_in_nI ?_ ?_) <;> first | omega | decide))); (conv => whnf))
                  | (refine And.intro (by first | with_reducible assumption | exact (show cL _ _ = _ from rfl) | decide) ?_; (conv => whnf))
                  | ((with_reducible refine @And.intro (_ = _) _ ?_ ?_); (· rfl); (conv => whnf))
                  | ((with_reducible refine @And.intro (@LE.le Nat _ _ _) _ ?_ ?_); (· (first | exact Nat.zero_le _ | exact Nat.le_of_ble_eq_true rfl | omega)); (conv => whnf))
                  | ((with_reducible refine @And.intro (@LT.lt Nat _ _ _) _ ?_ ?_); (· omega); (conv => whnf))
                  | ((with_reducible refine @And.intro (∃ _, _ = _) _ ?_ ?_); (· exact ⟨_, rfl⟩); (conv => whnf))
                  | ((with_reducible refine @And.intro (_ ∨ _) _ ?_ ?_); (· (first | exact Or.inl rfl | exact Or.inr rfl | exact t_b01 _ | assumption)); (conv => whnf))
                  | ((with_reducible refine @And.intro (¬ (_ = _)) _ ?_ ?_); (· first | assumption | (with_reducible assumption)); (conv => whnf))
                  | (refine hX _ _ _ _ _ _ ?_; (conv => whnf); fail_if_success show False)
                  | (rw [c_si]; (conv => whnf))
                  | (refine ⟨_, rfl, ?_⟩; (conv => whnf))
                  | (refine ⟨_, _, rfl, ?_⟩; (conv => whnf))
                  | (refine ⟨_, _, _, rfl, ?_⟩; (conv => whnf))
                  | (refine ⟨_, _, _, _, rfl, ?_⟩; (conv => whnf))
                  | (refine ⟨nI (k+1),rfl,m9,?_⟩; (conv => whnf))
                  | (refine ⟨_,L,rfl,hokM,?_⟩; (conv => whnf))
                  | (rw [ecl]; (conv => whnf))
                  | (refine And.intro (fun c => ?_) (fun c => ?_) <;> (first | (exact absurd c (by decide +kernel)) | (exact absurd c (by assumption)) | (exact False.elim (c (by assumption))) | (conv => whnf)))
                  | fail)
                refine ⟨a, L, T, al, left &&& (nI (k + 1) ^^^ nM), used ||| nI (k + 1), most, pre ++ [nI (k + 1)], r, c_run most (g_part (cG P I L) T al p r used pre k) s, ?_, hF2.sp.good hg, by rw [eG2]; exact hk0, ha, ?_, ?_, ?_, ?_, ?_, ?_, hmost, ?_, ?_⟩
                · rw [hr']
                  show [_, _, Value.int (nI pre.length + Int32.ofInt 1), Value.int (left &&& (nI (k + 1) ^^^ Int32.ofInt (-1))), _, _] = _
                  rw [xl_n.2.1, nI_add, xl_m]
                · rw [eG2, hr', ← hlen, List.length_cons]
                  omega
                · simp at hd
                  exact hd
                · intro i p' l' hi
                  rw [eG2, hr', show pre.length + 1 + i = pre.length + (i + 1) by omega]
                  exact hrest (i + 1) p' l' hi
                · rw [eG2]
                  exact hlu.nx cf
                · rw [eG2]
                  exact ⟨by rw [xm_u2_ne (by decide)]; exact hst.1, fun j hj => by rw [xm_u2_ne (by decide)]; exact hst.2 j hj⟩
                · exact c_run_le hsm
                · intro j v hv
                  rcases Nat.lt_or_ge j pre.length with q | q
                  · rw [List.getElem?_append_left q] at hv
                    exact (o17 j q).trans (hpre j v hv)
                  · have q2 := (List.getElem?_eq_some_iff.mp hv).1
                    rw [hr'] at q2
                    have q3 : j = pre.length := by omega
                    subst q3
                    simp at hv
                    rw [← hv]
                    exact e17
                · intro J hJ hJ17 hJs
                  have hJs : c_cst J (gmany (cG P (xm_u2 M 17 pre.length (nI (k + 1))) L) a) (c_run most ((g_cs (cG P (xm_u2 M 17 pre.length (nI (k + 1))) L) T al r (used ||| nI (k + 1))).map (fun x => pre ++ [nI (k + 1)] ++ x)) (c_run most (g_part (cG P I L) T al p r used pre k) s)) := hJs
                  rw [eG2, ← c_run_app] at hJs
                  have fin := x158 J (hF2.tr hJ) (fun j hj => (hJ17 j (by rw [hr']; omega)).trans (o17 j hj)) (by
                    rw [g_part_s, if_pos can]
                    exact hJs)
                  clear x158
                  (conv => whnf)
                  repeat' (first
                    | ((with_reducible refine @And.intro (vp_in _ _) _ ?_ ?_); (· (first | with_reducible assumption | ((with_reducible refine t_vin ?_); decide) | ((with_reducible refine vp_in_nI ?_ ?_) <;> first | omega | decide) | (simp (disch := omega) only [xl_n, xl_m, nI_dec, nI_sb, nI_add, pk_mul]; (with_reducible refine vp_in_nI ?_ ?_) <;> first | omega | decide))); (conv => whnf))
                    | (refine And.intro (by first | with_reducible assumption | exact (show cL _ _ = _ from rfl) | decide) ?_; (conv => whnf))
                    | ((with_reducible refine @And.intro (_ = _) _ ?_ ?_); (· rfl); (conv => whnf))
                    | ((with_reducible refine @And.intro (@LE.le Nat _ _ _) _ ?_ ?_); (· (first | exact Nat.zero_le _ | exact Nat.le_of_ble_eq_true rfl | omega)); (conv => whnf))
                    | ((with_reducible refine @And.intro (@LT.lt Nat _ _ _) _ ?_ ?_); (· omega); (conv => whnf))
                    | ((with_reducible refine @And.intro (∃ _, _ = _) _ ?_ ?_); (· exact ⟨_, rfl⟩); (conv => whnf))
                    | ((with_reducible refine @And.intro (_ ∨ _) _ ?_ ?_); (· (first | exact Or.inl rfl | exact Or.inr rfl | exact t_b01 _ | assumption)); (conv => whnf))
                    | ((with_reducible refine @And.intro (¬ (_ = _)) _ ?_ ?_); (· first | assumption | (with_reducible assumption)); (conv => whnf))
                    | (refine hX _ _ _ _ _ _ ?_; (conv => whnf); fail_if_success show False)
                    | (rw [c_si]; (conv => whnf))
                    | (refine ⟨_, rfl, ?_⟩; (conv => whnf))
                    | (refine ⟨_, _, rfl, ?_⟩; (conv => whnf))
                    | (refine ⟨_, _, _, rfl, ?_⟩; (conv => whnf))
                    | (refine ⟨_, _, _, _, rfl, ?_⟩; (conv => whnf))
                    | (refine And.intro (fun c => ?_) (fun c => ?_) <;> (first | (exact absurd c (by decide +kernel)) | (conv => whnf)))
                    | fail)
                  exact fin
            · have g2 : ¬ t_ones (nI (k + 1)) = M 36 (nI p).toNatClampNeg := by rw [b36]; exact f2
              have fin := stay (by rw [eflt, decide_eq_false f2, Bool.and_false]; rfl)
              clear x158 stay
              refine hG _ _ _ _ _ _ ?_
              (conv => whnf)
              repeat' (first
                | ((with_reducible refine @And.intro (vp_in _ _) _ ?_ ?_); (· (first | with_reducible assumption | ((with_reducible refine t_vin ?_); decide) | ((with_reducible refine vp_in_nI ?_ ?_) <;> first | omega | decide) | (simp (disch := omega) only [xl_n, xl_m, nI_dec, nI_sb, nI_add, pk_mul]; (with_reducible refine vp_in_nI ?_ ?_) <;> first | omega | decide))); (conv => whnf))
                | (refine And.intro (by first | with_reducible assumption | exact (show cL _ _ = _ from rfl) | decide) ?_; (conv => whnf))
                | ((with_reducible refine @And.intro (_ = _) _ ?_ ?_); (· rfl); (conv => whnf))
                | ((with_reducible refine @And.intro (@LE.le Nat _ _ _) _ ?_ ?_); (· (first | exact Nat.zero_le _ | exact Nat.le_of_ble_eq_true rfl | omega)); (conv => whnf))
                | ((with_reducible refine @And.intro (@LT.lt Nat _ _ _) _ ?_ ?_); (· omega); (conv => whnf))
                | ((with_reducible refine @And.intro (∃ _, _ = _) _ ?_ ?_); (· exact ⟨_, rfl⟩); (conv => whnf))
                | ((with_reducible refine @And.intro (_ ∨ _) _ ?_ ?_); (· (first | exact Or.inl rfl | exact Or.inr rfl | exact t_b01 _ | assumption)); (conv => whnf))
                | ((with_reducible refine @And.intro (¬ (_ = _)) _ ?_ ?_); (· first | assumption | (with_reducible assumption)); (conv => whnf))
                | (refine hX _ _ _ _ _ _ ?_; (conv => whnf); fail_if_success show False)
                | (rw [c_si]; (conv => whnf))
                | (refine ⟨_, rfl, ?_⟩; (conv => whnf))
                | (refine ⟨_, _, rfl, ?_⟩; (conv => whnf))
                | (refine ⟨_, _, _, rfl, ?_⟩; (conv => whnf))
                | (refine ⟨_, _, _, _, rfl, ?_⟩; (conv => whnf))
                | (refine ⟨nI (k+1),rfl,m9,?_⟩; (conv => whnf))
                | (refine And.intro (fun c => ?_) (fun c => ?_) <;> (first | (exact absurd c (by decide +kernel)) | (exact absurd c (by assumption)) | (exact False.elim (c (by assumption))) | (conv => whnf)))
                | fail)
              exact fin
          · have g1 : ¬ nI (k + 1) &&& ((left &&& (I 39 p ^^^ nM)) ^^^ Int32.ofInt (-1)) = 0 := f1
            have fin := stay (by rw [eflt, decide_eq_false f1]; rfl)
            clear x158 stay
            refine hG _ _ _ _ _ _ ?_
            (conv => whnf)
            repeat' (first
              | ((with_reducible refine @And.intro (vp_in _ _) _ ?_ ?_); (· (first | with_reducible assumption | ((with_reducible refine t_vin ?_); decide) | ((with_reducible refine vp_in_nI ?_ ?_) <;> first | omega | decide) | (simp (disch := omega) only [xl_n, xl_m, nI_dec, nI_sb, nI_add, pk_mul]; (with_reducible refine vp_in_nI ?_ ?_) <;> first | omega | decide))); (conv => whnf))
              | (refine And.intro (by first | with_reducible assumption | exact (show cL _ _ = _ from rfl) | decide) ?_; (conv => whnf))
              | ((with_reducible refine @And.intro (_ = _) _ ?_ ?_); (· rfl); (conv => whnf))
              | ((with_reducible refine @And.intro (@LE.le Nat _ _ _) _ ?_ ?_); (· (first | exact Nat.zero_le _ | exact Nat.le_of_ble_eq_true rfl | omega)); (conv => whnf))
              | ((with_reducible refine @And.intro (@LT.lt Nat _ _ _) _ ?_ ?_); (· omega); (conv => whnf))
              | ((with_reducible refine @And.intro (∃ _, _ = _) _ ?_ ?_); (· exact ⟨_, rfl⟩); (conv => whnf))
              | ((with_reducible refine @And.intro (_ ∨ _) _ ?_ ?_); (· (first | exact Or.inl rfl | exact Or.inr rfl | exact t_b01 _ | assumption)); (conv => whnf))
              | ((with_reducible refine @And.intro (¬ (_ = _)) _ ?_ ?_); (· first | assumption | (with_reducible assumption)); (conv => whnf))
              | (refine hX _ _ _ _ _ _ ?_; (conv => whnf); fail_if_success show False)
              | (rw [c_si]; (conv => whnf))
              | (refine ⟨_, rfl, ?_⟩; (conv => whnf))
              | (refine ⟨_, _, rfl, ?_⟩; (conv => whnf))
              | (refine ⟨_, _, _, rfl, ?_⟩; (conv => whnf))
              | (refine ⟨_, _, _, _, rfl, ?_⟩; (conv => whnf))
              | (refine And.intro (fun c => ?_) (fun c => ?_) <;> (first | (exact absurd c (by decide +kernel)) | (exact absurd c (by assumption)) | (exact False.elim (c (by assumption))) | (conv => whnf)))
              | fail)
            exact fin
      have x := l2 0 (Nat.zero_le _) I c_cf.rf (fun _ _ => rfl) (by exact hs)
      clear l2
      have e90 : xm_fld (cW P Z I) (90 + a) (nI pre.length).toNatClampNeg 0 = .int (nI p) := by
        show Value.int (I (90 + a) (nI pre.length).toNatClampNeg) = _
        rw [nI_clamp (by omega), eq]
      have e90b : (cW P Z I).2.1 (90 + a) (nI pre.length).toNatClampNeg = nI p := Value.int.inj e90
      repeat' (first
        | ((with_reducible refine @And.intro (vp_in _ _) _ ?_ ?_); (· (first | with_reducible assumption | ((with_reducible refine t_vin ?_); decide) | ((with_reducible refine vp_in_nI ?_ ?_) <;> first | omega | decide) | (simp (disch := omega) only [xl_n, xl_m, nI_dec, nI_sb, nI_add, pk_mul]; (with_reducible refine vp_in_nI ?_ ?_) <;> first | omega | decide))); (conv => whnf))
        | (refine And.intro (by first | with_reducible assumption | exact (show cL _ _ = _ from rfl) | decide) ?_; (conv => whnf))
        | ((with_reducible refine @And.intro (_ = _) _ ?_ ?_); (· rfl); (conv => whnf))
        | ((with_reducible refine @And.intro (@LE.le Nat _ _ _) _ ?_ ?_); (· (first | exact Nat.zero_le _ | exact Nat.le_of_ble_eq_true rfl | omega)); (conv => whnf))
        | ((with_reducible refine @And.intro (@LT.lt Nat _ _ _) _ ?_ ?_); (· omega); (conv => whnf))
        | ((with_reducible refine @And.intro (∃ _, _ = _) _ ?_ ?_); (· exact ⟨_, rfl⟩); (conv => whnf))
        | ((with_reducible refine @And.intro (_ ∨ _) _ ?_ ?_); (· (first | exact Or.inl rfl | exact Or.inr rfl | exact t_b01 _ | assumption)); (conv => whnf))
        | ((with_reducible refine @And.intro (¬ (_ = _)) _ ?_ ?_); (· first | assumption | (with_reducible assumption)); (conv => whnf))
        | (refine hX _ _ _ _ _ _ ?_; (conv => whnf); fail_if_success show False)
        | (rw [c_si]; (conv => whnf))
        | (refine ⟨_, rfl, ?_⟩; (conv => whnf))
        | (refine ⟨_, _, rfl, ?_⟩; (conv => whnf))
        | (refine ⟨_, _, _, rfl, ?_⟩; (conv => whnf))
        | (refine ⟨_, _, _, _, rfl, ?_⟩; (conv => whnf))
        | (rw [c_ac ha h6]; (conv => whnf))
        | (rw [c_af ha h6]; (conv => whnf))
        | (rw [c_av ha h6]; (conv => whnf))
        | (rw [e90]; (conv => whnf))
        | (rw [e90b]; (conv => whnf))
        | (refine And.intro (fun c => ?_) (fun c => ?_) <;> (first | (exact absurd c (by decide +kernel)) | (exact absurd c (by assumption)) | (exact False.elim (c (by assumption))) | (conv => whnf)))
        | fail)
      clear hX hG hQ
      simp (disch := omega) only [xl_n, xl_m, nI_dec, nI_sb, xl_0, xl_1, cW_i, Nat.add_zero, Nat.reduceAdd, Nat.reduceMul, t_bn0, t_bn1, Classical.not_not, t_lt, nI_add, nI_1, pk_mul, nI_clamp, c_si, nI_eq, nI_leI, nM_ne, nM_ne, xm_set, xm_lv0, xm_psh] at *
      exact x
  · have dw : ¬ I 0 19 < nI most := by
      rw [e19, t_lt, nI_leI (by omega) (by omega)]
      omega
    repeat' (first
      | ((with_reducible refine @And.intro (vp_in _ _) _ ?_ ?_); (· (first | with_reducible assumption | ((with_reducible refine t_vin ?_); decide) | ((with_reducible refine vp_in_nI ?_ ?_) <;> first | omega | decide) | (simp (disch := omega) only [xl_n, xl_m, nI_dec, nI_sb, nI_add, pk_mul]; (with_reducible refine vp_in_nI ?_ ?_) <;> first | omega | decide))); (conv => whnf))
      | (refine And.intro (by first | with_reducible assumption | exact (show cL _ _ = _ from rfl) | decide) ?_; (conv => whnf))
      | ((with_reducible refine @And.intro (_ = _) _ ?_ ?_); (· rfl); (conv => whnf))
      | ((with_reducible refine @And.intro (@LE.le Nat _ _ _) _ ?_ ?_); (· (first | exact Nat.zero_le _ | exact Nat.le_of_ble_eq_true rfl | omega)); (conv => whnf))
      | ((with_reducible refine @And.intro (@LT.lt Nat _ _ _) _ ?_ ?_); (· omega); (conv => whnf))
      | ((with_reducible refine @And.intro (∃ _, _ = _) _ ?_ ?_); (· exact ⟨_, rfl⟩); (conv => whnf))
      | ((with_reducible refine @And.intro (_ ∨ _) _ ?_ ?_); (· (first | exact Or.inl rfl | exact Or.inr rfl | exact t_b01 _ | assumption)); (conv => whnf))
      | ((with_reducible refine @And.intro (¬ (_ = _)) _ ?_ ?_); (· first | assumption | (with_reducible assumption)); (conv => whnf))
      | (refine hX _ _ _ _ _ _ ?_; (conv => whnf); fail_if_success show False)
      | (rw [c_si]; (conv => whnf))
      | (refine ⟨_, rfl, ?_⟩; (conv => whnf))
      | (refine ⟨_, _, rfl, ?_⟩; (conv => whnf))
      | (refine ⟨_, _, _, rfl, ?_⟩; (conv => whnf))
      | (refine ⟨_, _, _, _, rfl, ?_⟩; (conv => whnf))
      | (refine And.intro (fun c => ?_) (fun c => ?_) <;> (first | (exact absurd c (by decide +kernel)) | (exact absurd c (by assumption)) | (exact False.elim (c (by assumption))) | (conv => whnf)))
      | fail)
    refine hQ I c_cf.rf (fun _ _ => rfl) ?_
    rw [c_run_stop (by omega)]
    exact hs
theorem ct_X1_castsOn : ∀ d, xm_Ct cI yX1_castsOn (ws_ yX1_castsOn cX1_castsOn 9 none) (d + 9) 0 0 (S_X1_castsOn d)
  | 0 => xm_ct0
  | d + 1 => xm_enter (rt := 2) (init := false) (by decide +kernel) rfl (fun h => by cases h) (Or.inr (Or.inr (Or.inl ⟨rfl, rfl⟩))) (oX1_castsOn d (ct_X1_castsOn d)) (body_X1_castsOn d)
theorem cv_X1_castsOn {own : String} {cc : ByteArray} {fr pc idx : Nat} (hdg : decode cc pc = .ok (.invokevirtual idx, 3)) (hl : xm_ml own idx yX1_castsOn) (hfr : 16 < fr) : xm_CallOK cI own cc fr pc (pc + 3) 6 0 0 (xm_this 0 (S_X1_castsOn 7)) := xm_callV 0 cI_good (ct_X1_castsOn 7) hdg hl q843 qs8 q116 q844 rfl rfl (by decide +kernel) hfr (by decide)
theorem c_lu_0 {G : gG} {al : Int32} (h : ∀ k, k < 32 → t_has al k = true → k < gn (gGK G)) : c_lu G al al (nI 0) := by
  refine ⟨?_, ?_, h⟩
  · refine th_ext fun k hk => ?_
    rw [th_and hk, th_not hk, th_0 hk]
    simp
  · unfold g_sil
    refine t_ex_0 fun k hk => ?_
    rw [t_has_0]
    rfl
abbrev bX1_castsOf_0 : List xE := [(.aload_n 0, 1, 0, 0, 0), (.iload_n 2, 2, 0, 0, 0), (.invokevirtual 265, 5, 0, 0, 9), (.astore 5, 7, 0, 0, 0), (.aload_n 0, 8, 0, 0, 0), (.iconst 0, 9, 0, 0, 0), (.putfield 325, 12, 0, 19, 0), (.iconst 0, 13, 0, 0, 0), (.istore 6, 15, 0, 0, 0)]
abbrev bX1_castsOf_15 : List xE := [(.iload 6, 17, 0, 0, 0), (.aload 5, 19, 0, 0, 0), (.getfield 328, 22, 11, 2, 0), (.if_icmp .ge 32, 25, 0, 54, 0), (.aload_n 1, 26, 0, 0, 0), (.getfield 198, 29, 7, 3, 1), (.aload 5, 31, 0, 0, 0), (.getfield 331, 34, 11, 1, 1), (.iload 6, 36, 0, 0, 0), (.iaload, 37, 0, 0, 0), (.iaload, 38, 0, 0, 0), (.aload 5, 40, 0, 0, 0), (.getfield 269, 43, 11, 0, 0), (.if_icmp .ge 5, 46, 0, 48, 0), (.iconst 0, 47, 0, 0, 0), (.ireturn, 48, 0, 0, 0)]
abbrev bX1_castsOf_48 : List xE := [(.iinc 6 1, 51, 0, 0, 0), (.goto (-36), 54, 0, 15, 0)]
abbrev bX1_castsOf_54 : List xE := [(.aload_n 0, 55, 0, 0, 0), (.aload 5, 57, 0, 0, 0), (.iconst 0, 58, 0, 0, 0), (.iload_n 3, 59, 0, 0, 0), (.iconst 0, 60, 0, 0, 0), (.iload 4, 62, 0, 0, 0), (.invokevirtual 340, 65, 0, 1, 9), (.aload_n 0, 66, 0, 0, 0), (.getfield 325, 69, 0, 19, 0), (.ireturn, 70, 0, 0, 0)]
abbrev kX1_castsOf : List (Nat × List xE) := [(0, bX1_castsOf_0), (15, bX1_castsOf_15), (48, bX1_castsOf_48), (54, bX1_castsOf_54)]
abbrev lX1_castsOf : List (Nat × Nat × Nat × xS) := [(2, 0, 0, xm_this 0 S_X1_actOf), (6, 0, 0, xm_this 0 (S_X1_castsOn 7))]
theorem oX1_castsOf_0  : xm_okb cI RX1 cX1_castsOf false 17 lX1_castsOf bX1_castsOf_0 0 := xo_0 dX1_castsOf_0 rfl trivial (xo_0 dX1_castsOf_1 rfl trivial (xo_c rfl (cv_X1_actOf dX1_castsOf_2 (Or.inl q822) (by decide)) (xo_0 dX1_castsOf_5 rfl trivial (xo_0 dX1_castsOf_7 rfl trivial (xo_0 dX1_castsOf_8 rfl trivial (xo_0 dX1_castsOf_9 rfl (xm_fp_of (xm_fg_of (Or.inl q738) (by decide) rfl (by decide) rfl rfl (Or.inl rfl) rfl) (by decide) rfl (Or.inl ⟨rfl, rfl⟩) rfl) (xo_0 dX1_castsOf_12 rfl trivial (xo_0 dX1_castsOf_13 rfl trivial (xo_n)))))))))
theorem oX1_castsOf_15  : xm_okb cI RX1 cX1_castsOf false 17 lX1_castsOf bX1_castsOf_15 15 := xo_0 dX1_castsOf_15 rfl trivial (xo_0 dX1_castsOf_17 rfl trivial (xo_0 dX1_castsOf_19 rfl (xm_fg_of (Or.inr ⟨_, q1307⟩) (by decide) rfl (by decide) rfl rfl (Or.inl rfl) rfl) (xo_0 dX1_castsOf_22 rfl rfl (xo_0 dX1_castsOf_25 rfl trivial (xo_1 dX1_castsOf_26 rfl (xm_fg_of (Or.inr ⟨_, q669⟩) (by decide) rfl (by decide) rfl rfl (Or.inl rfl) rfl) (xo_0 dX1_castsOf_29 rfl trivial (xo_1 dX1_castsOf_31 rfl (xm_fg_of (Or.inr ⟨_, q1304⟩) (by decide) rfl (by decide) rfl rfl (Or.inl rfl) rfl) (xo_0 dX1_castsOf_34 rfl trivial (xo_0 dX1_castsOf_36 rfl trivial (xo_0 dX1_castsOf_37 rfl trivial (xo_0 dX1_castsOf_38 rfl trivial (xo_0 dX1_castsOf_40 rfl (xm_fg_of (Or.inr ⟨_, q1302⟩) (by decide) rfl (by decide) rfl rfl (Or.inl rfl) rfl) (xo_0 dX1_castsOf_43 rfl rfl (xo_0 dX1_castsOf_46 rfl trivial (xo_0 dX1_castsOf_47 rfl trivial (xo_n))))))))))))))))
theorem oX1_castsOf_48  : xm_okb cI RX1 cX1_castsOf false 17 lX1_castsOf bX1_castsOf_48 48 := xo_0 dX1_castsOf_48 rfl trivial (xo_0 dX1_castsOf_51 rfl rfl (xo_n))
theorem oX1_castsOf_54  : xm_okb cI RX1 cX1_castsOf false 17 lX1_castsOf bX1_castsOf_54 54 := xo_0 dX1_castsOf_54 rfl trivial (xo_0 dX1_castsOf_55 rfl trivial (xo_0 dX1_castsOf_57 rfl trivial (xo_0 dX1_castsOf_58 rfl trivial (xo_0 dX1_castsOf_59 rfl trivial (xo_0 dX1_castsOf_60 rfl trivial (xo_c rfl (cv_X1_castsOn dX1_castsOf_62 (Or.inl q841) (by decide)) (xo_0 dX1_castsOf_65 rfl trivial (xo_0 dX1_castsOf_66 rfl (xm_fg_of (Or.inl q738) (by decide) rfl (by decide) rfl rfl (Or.inl rfl) rfl) (xo_0 dX1_castsOf_69 rfl trivial (xo_n))))))))))
theorem oX1_castsOf  : ∀ q ∈ kX1_castsOf, xm_okb cI RX1 cX1_castsOf false 17 lX1_castsOf q.2 q.1 := by
  intro q hq
  simp only [List.mem_cons, List.not_mem_nil, or_false] at hq
  rcases hq with rfl | rfl | rfl | rfl
  · exact oX1_castsOf_0  
  · exact oX1_castsOf_15  
  · exact oX1_castsOf_48  
  · exact oX1_castsOf_54  
def S_X1_castsOf : xS := cU fun as P Z I Q QX => ∃ (r a : Nat) (L : List lC) (al : Int32) (most : Nat), as = [.ref 0, .ref r, .int (nI a), .int al, .int (nI most)] ∧ c_tr P r ∧ c_good P Z I L ∧ g_ok (cG P I L) ∧ a < P.1 ∧ (∀ k, k < 32 → t_has al k = true → k < c_h I) ∧ 1 ≤ most ∧ most ≤ 1000000 ∧ ∀ J, c_cf I J → (¬ g_casts (cG P I L) (cA I r) al a = [] → ∀ k, k < gmany (cG P I L) a → J 18 k = g_first (g_casts (cG P I L) (cA I r) al a) k) → Q (some (.int (nI (min most (g_casts (cG P I L) (cA I r) al a).length)))) J
theorem body_X1_castsOf : xm_Body 7 0 0 0 [] lX1_castsOf kX1_castsOf S_X1_castsOf := by
  intro X avs w Q QX hX0 hS
  have hG := xm_go [] hX0
  have hX := xm_go [15] hX0
  clear hX0
  obtain ⟨P, Z, I, rfl, r, a, L, al, most, rfl, hr, hg, hk0, ha, hal, hm1, hm2, hQ⟩ := hS
  have hok := hg.ok
  obtain ⟨hn, h9, hm, h8⟩ := id hok
  have hrn := hr.ne
  have hl := hg.ls
  have h6 := hl.1
  obtain ⟨a2, a6, a3, ap⟩ := hg.2.2.2.1 a ha
  have em : gmany (cG P I L) a = c_am P I a := rfl
  have hl2 : c_ls P (xm_u2 I 0 19 (nI 0)) := hl
  have epup : ∀ i, i < c_am P I a → ∃ p, p < c_p I ∧ I (90 + a) i = nI p ∧ gpup (cG P I L) a i = p := fun i hi => by
    obtain ⟨p, hp, e⟩ := ap i hi
    refine ⟨p, hp, e, ?_⟩
    show (if i < c_am P I a then (I (90 + a) i).toNatClampNeg else 0) = p
    rw [if_pos hi, e, nI_clamp (by omega)]
  have el : glaugh (cG P I L) a = I (80 + a) 0 := if_pos ha
  obtain ⟨M, hM⟩ : ∃ M, M = xm_u2 I 0 19 (nI 0) := ⟨_, rfl⟩
  have hF : c_cf I M := by rw [hM]; exact c_cf.uf
  have eG : cG P M L = cG P I L := hF.sp.G hg
  have fM : ∀ b : Nat, b ≠ 17 → b ≠ 18 → b ≠ 0 → M b = I b := hF.1
  have e18 : M 18 = I 18 := by rw [hM]; exact funext fun j => xm_u2_ne (by decide) j
  have e19 : M 0 19 = nI 0 := by rw [hM, xm_u2_at, if_pos rfl]
  rw [← hM] at hl2
  have loop : ∀ k, k ≤ c_am P I a → (∀ i, i < k → glaugh (cG P I L) a ≤ gs (cA I r) (gpup (cG P I L) a i)) → X 15 [some (.ref 0), some (.ref r), some (.int (nI a)), some (.int al), some (.int (nI most)), some (.ref (80 + a)), some (.int (nI k))] [] (cW P Z M) 0 0 := by
    refine t_for fun k h1 ih hs => ?_
    by_cases hk : k = c_am P I a
    · subst hk
      have d1 : M (80 + a) 2 ≤ nI (c_am P I a) := by rw [fM _ (by omega) (by omega) (by omega), a2]; exact Int32.le_refl _
      clear ih
      refine hG _ _ _ _ _ _ ?_
      (conv => whnf)
      repeat' (first
        | ((with_reducible refine @And.intro (vp_in _ _) _ ?_ ?_); (· (first | with_reducible assumption | ((with_reducible refine t_vin ?_); decide) | ((with_reducible refine vp_in_nI ?_ ?_) <;> first | omega | decide) | (simp (disch := omega) only [xl_n, xl_m, nI_dec, nI_sb, nI_add, pk_mul]; (with_reducible refine vp_in_nI ?_ ?_) <;> first | omega | decide))); (conv => whnf))
        | (refine And.intro (by first | with_reducible assumption | exact (show cL _ _ = _ from rfl) | decide) ?_; (conv => whnf))
        | ((with_reducible refine @And.intro (_ = _) _ ?_ ?_); (· rfl); (conv => whnf))
        | ((with_reducible refine @And.intro (@LE.le Nat _ _ _) _ ?_ ?_); (· (first | exact Nat.zero_le _ | exact Nat.le_of_ble_eq_true rfl | omega)); (conv => whnf))
        | ((with_reducible refine @And.intro (@LT.lt Nat _ _ _) _ ?_ ?_); (· omega); (conv => whnf))
        | ((with_reducible refine @And.intro (∃ _, _ = _) _ ?_ ?_); (· exact ⟨_, rfl⟩); (conv => whnf))
        | ((with_reducible refine @And.intro (_ ∨ _) _ ?_ ?_); (· (first | exact Or.inl rfl | exact Or.inr rfl | exact t_b01 _ | assumption)); (conv => whnf))
        | ((with_reducible refine @And.intro (¬ (_ = _)) _ ?_ ?_); (· first | assumption | (with_reducible assumption)); (conv => whnf))
        | (refine hX _ _ _ _ _ _ ?_; (conv => whnf); fail_if_success show False)
        | (rw [c_si]; (conv => whnf))
        | (refine ⟨_, rfl, ?_⟩; (conv => whnf))
        | (refine ⟨_, _, rfl, ?_⟩; (conv => whnf))
        | (refine ⟨_, _, _, rfl, ?_⟩; (conv => whnf))
        | (refine ⟨_, _, _, _, rfl, ?_⟩; (conv => whnf))
        | (rw [c_ac ha h6]; (conv => whnf))
        | (refine And.intro (fun c => ?_) (fun c => ?_) <;> (first | (exact absurd c (by decide +kernel)) | (exact absurd c (by assumption)) | (exact False.elim (c (by assumption))) | (conv => whnf)))
        | fail)
      refine ⟨a, L, cA I r, al, al, nI 0, most, [], g_act (cG P I L) a, (0, I 18), rfl, hF.sp.good hg, by rw [eG]; exact hk0, ha, ?_, ?_, ?_, ?_, ?_, Nat.zero_le _, hm2, fun j v h => by simp at h, ?_⟩
      · rw [eG]
        show 0 + (g_actN _ _ _).length = _
        rw [g_actN_n, Nat.zero_add]
      · show (g_actN _ _ _).length ≤ 6
        rw [g_actN_n]
        exact a6
      · intro i p l hi
        rw [eG]
        have hlt := (List.getElem?_eq_some_iff.mp hi).1
        have hlt2 : i < c_am P I a := by
          have e : (g_act (cG P I L) a).length = c_am P I a := g_actN_n
          omega
        have e : (g_act (cG P I L) a)[i]? = some (gpup (cG P I L) a i, glaugh (cG P I L) a) := by
          unfold g_act g_actN
          rw [List.getElem?_map, List.getElem?_range (by omega)]
          rfl
        rw [e] at hi
        cases hi
        exact ⟨by rw [List.length_nil, Nat.zero_add], hs i hlt2⟩
      · rw [eG]
        exact c_lu_0 hal
      · exact ⟨e19, fun k hk => by rw [e18]⟩
      · intro J hJ _ hst
        have hst : c_cst J (gmany (cG P M L) a) (c_run most ((g_cs (cG P M L) (cA I r) al (g_act (cG P I L) a) (nI 0)).map ([] ++ ·)) (0, I 18)) := hst
        rw [eG] at hst
        have e2 : (g_cs (cG P I L) (cA I r) al (g_act (cG P I L) a) (nI 0)).map ([] ++ ·) = g_casts (cG P I L) (cA I r) al a := by
          show List.map (fun x => x) _ = _
          rw [List.map_id']
          rfl
        rw [e2] at hst
        have fin := hQ J (hF.tr hJ) (fun hne k hk => by rw [hst.2 k hk, c_run_1 hm1 rfl hne])
        have e3 : nI (min most (g_casts (cG P I L) (cA I r) al a).length) = J 0 19 := by
          rw [hst.1, c_run_n (Nat.zero_le _), Nat.zero_add]
        rw [e3] at fin
        clear hQ
        (conv => whnf)
        repeat' (first
          | ((with_reducible refine @And.intro (vp_in _ _) _ ?_ ?_); (· (first | with_reducible assumption | ((with_reducible refine t_vin ?_); decide) | ((with_reducible refine vp_in_nI ?_ ?_) <;> first | omega | decide) | (simp (disch := omega) only [xl_n, xl_m, nI_dec, nI_sb, nI_add, pk_mul]; (with_reducible refine vp_in_nI ?_ ?_) <;> first | omega | decide))); (conv => whnf))
          | (refine And.intro (by first | with_reducible assumption | exact (show cL _ _ = _ from rfl) | decide) ?_; (conv => whnf))
          | ((with_reducible refine @And.intro (_ = _) _ ?_ ?_); (· rfl); (conv => whnf))
          | ((with_reducible refine @And.intro (@LE.le Nat _ _ _) _ ?_ ?_); (· (first | exact Nat.zero_le _ | exact Nat.le_of_ble_eq_true rfl | omega)); (conv => whnf))
          | ((with_reducible refine @And.intro (@LT.lt Nat _ _ _) _ ?_ ?_); (· omega); (conv => whnf))
          | ((with_reducible refine @And.intro (∃ _, _ = _) _ ?_ ?_); (· exact ⟨_, rfl⟩); (conv => whnf))
          | ((with_reducible refine @And.intro (_ ∨ _) _ ?_ ?_); (· (first | exact Or.inl rfl | exact Or.inr rfl | exact t_b01 _ | assumption)); (conv => whnf))
          | ((with_reducible refine @And.intro (¬ (_ = _)) _ ?_ ?_); (· first | assumption | (with_reducible assumption)); (conv => whnf))
          | (refine hX _ _ _ _ _ _ ?_; (conv => whnf); fail_if_success show False)
          | (rw [c_si]; (conv => whnf))
          | (refine ⟨_, rfl, ?_⟩; (conv => whnf))
          | (refine ⟨_, _, rfl, ?_⟩; (conv => whnf))
          | (refine ⟨_, _, _, rfl, ?_⟩; (conv => whnf))
          | (refine ⟨_, _, _, _, rfl, ?_⟩; (conv => whnf))
          | (refine And.intro (fun c => ?_) (fun c => ?_) <;> (first | (exact absurd c (by decide +kernel)) | (conv => whnf)))
          | fail)
        exact fin
    · have hk2 : k < c_am P I a := by omega
      obtain ⟨p, hp, e90, ep⟩ := epup k hk2
      have d1 : ¬ M (80 + a) 2 ≤ nI k := by
        rw [fM _ (by omega) (by omega) (by omega), a2, nI_leI (by omega) (by omega)]
        omega
      have nx := ih (k + 1) (by omega) (by omega)
      clear ih
      have es : gs (cA I r) p = I (10 * r + 3) p := cA_gs (by omega)
      have ecp : (nI p).toNatClampNeg = p := nI_clamp (by omega)
      have e90' : xm_fld (cW P Z M) (90 + a) (nI k).toNatClampNeg 0 = .int (nI p) := by
        show Value.int (M (90 + a) (nI k).toNatClampNeg) = _
        rw [nI_clamp (by omega), fM _ (by omega) (by omega) (by omega), e90]
      have e90'b : (cW P Z M).2.1 (90 + a) (nI k).toNatClampNeg = nI p := Value.int.inj e90'
      have e3 : M (10 * r + 3) (nI p).toNatClampNeg = I (10 * r + 3) p := by rw [ecp, fM _ (by omega) (by omega) (by omega)]
      have e8 : M (80 + a) 0 = I (80 + a) 0 := by rw [fM _ (by omega) (by omega) (by omega)]
      by_cases f : I (80 + a) 0 ≤ I (10 * r + 3) p
      · have d2 : M (80 + a) 0 ≤ M (10 * r + 3) (nI p).toNatClampNeg := by rw [e3, e8]; exact f
        have nx := nx (fun i hi => by
          by_cases q : i = k
          · subst q
            rw [el, ep, es]
            exact f
          · exact hs i (by omega))
        refine hG _ _ _ _ _ _ ?_
        (conv => whnf)
        repeat' (first
          | ((with_reducible refine @And.intro (vp_in _ _) _ ?_ ?_); (· (first | with_reducible assumption | ((with_reducible refine t_vin ?_); decide) | ((with_reducible refine vp_in_nI ?_ ?_) <;> first | omega | decide) | (simp (disch := omega) only [xl_n, xl_m, nI_dec, nI_sb, nI_add, pk_mul]; (with_reducible refine vp_in_nI ?_ ?_) <;> first | omega | decide))); (conv => whnf))
          | (refine And.intro (by first | with_reducible assumption | exact (show cL _ _ = _ from rfl) | decide) ?_; (conv => whnf))
          | ((with_reducible refine @And.intro (_ = _) _ ?_ ?_); (· rfl); (conv => whnf))
          | ((with_reducible refine @And.intro (@LE.le Nat _ _ _) _ ?_ ?_); (· (first | exact Nat.zero_le _ | exact Nat.le_of_ble_eq_true rfl | omega)); (conv => whnf))
          | ((with_reducible refine @And.intro (@LT.lt Nat _ _ _) _ ?_ ?_); (· omega); (conv => whnf))
          | ((with_reducible refine @And.intro (∃ _, _ = _) _ ?_ ?_); (· exact ⟨_, rfl⟩); (conv => whnf))
          | ((with_reducible refine @And.intro (_ ∨ _) _ ?_ ?_); (· (first | exact Or.inl rfl | exact Or.inr rfl | exact t_b01 _ | assumption)); (conv => whnf))
          | ((with_reducible refine @And.intro (¬ (_ = _)) _ ?_ ?_); (· first | assumption | (with_reducible assumption)); (conv => whnf))
          | (refine hX _ _ _ _ _ _ ?_; (conv => whnf); fail_if_success show False)
          | (rw [c_si]; (conv => whnf))
          | (refine ⟨_, rfl, ?_⟩; (conv => whnf))
          | (refine ⟨_, _, rfl, ?_⟩; (conv => whnf))
          | (refine ⟨_, _, _, rfl, ?_⟩; (conv => whnf))
          | (refine ⟨_, _, _, _, rfl, ?_⟩; (conv => whnf))
          | (rw [c_ac ha h6]; (conv => whnf))
          | (rw [c_af ha h6]; (conv => whnf))
          | (rw [c_av ha h6]; (conv => whnf))
          | (rw [e90']; (conv => whnf))
          | (rw [e90'b]; (conv => whnf))
          | (rw [c_tl hr]; (conv => whnf))
          | (rw [c_t7 hr]; (conv => whnf))
          | (rw [c_tf hr (by decide)]; (conv => whnf))
          | (rw [c_t0 hr]; (conv => whnf))
          | (rw [c_t1 hr]; (conv => whnf))
          | (rw [c_t2 hr]; (conv => whnf))
          | (rw [c_t3 hr]; (conv => whnf))
          | (rw [c_t4 hr]; (conv => whnf))
          | (rw [c_t5 hr]; (conv => whnf))
          | (refine And.intro ⟨_, c_tl hr⟩ ?_; (conv => whnf))
          | (refine And.intro (fun c => ?_) (fun c => ?_) <;> (first | (exact absurd c (by decide +kernel)) | (exact absurd c (by assumption)) | (exact False.elim (c (by assumption))) | (conv => whnf)))
          | fail)
        clear hX hG hQ
        simp (disch := omega) only [xl_n, xl_m, nI_dec, nI_sb, xl_0, xl_1, cW_i, Nat.add_zero, Nat.reduceAdd, Nat.reduceMul, t_bn0, t_bn1, Classical.not_not, t_lt, nI_add, nI_1, pk_mul, nI_clamp, c_si, nI_eq, nI_leI, nM_ne, nM_ne, xm_set, xm_lv0, xm_psh] at *
        exact nx
      · have d2 : ¬ M (80 + a) 0 ≤ M (10 * r + 3) (nI p).toNatClampNeg := by rw [e3, e8]; exact f
        have e0 : g_casts (cG P I L) (cA I r) al a = [] := g_cs_no ⟨(gpup (cG P I L) a k, glaugh (cG P I L) a), by
          unfold g_act g_actN
          exact List.mem_map.mpr ⟨k, List.mem_range.mpr hk2, rfl⟩, by
          show ¬ glaugh (cG P I L) a ≤ gs (cA I r) (gpup (cG P I L) a k)
          rw [el, ep, es]
          exact f⟩
        have fin := hQ M hF (fun h => absurd e0 h)
        rw [e0] at fin
        have fin : Q (some (.int (nI (min most 0)))) (cW P Z M) := fin
        rw [Nat.min_zero, ← xl_n.1] at fin
        clear nx hQ
        refine hG _ _ _ _ _ _ ?_
        (conv => whnf)
        repeat' (first
          | ((with_reducible refine @And.intro (vp_in _ _) _ ?_ ?_); (· (first | with_reducible assumption | ((with_reducible refine t_vin ?_); decide) | ((with_reducible refine vp_in_nI ?_ ?_) <;> first | omega | decide) | (simp (disch := omega) only [xl_n, xl_m, nI_dec, nI_sb, nI_add, pk_mul]; (with_reducible refine vp_in_nI ?_ ?_) <;> first | omega | decide))); (conv => whnf))
          | (refine And.intro (by first | with_reducible assumption | exact (show cL _ _ = _ from rfl) | decide) ?_; (conv => whnf))
          | ((with_reducible refine @And.intro (_ = _) _ ?_ ?_); (· rfl); (conv => whnf))
          | ((with_reducible refine @And.intro (@LE.le Nat _ _ _) _ ?_ ?_); (· (first | exact Nat.zero_le _ | exact Nat.le_of_ble_eq_true rfl | omega)); (conv => whnf))
          | ((with_reducible refine @And.intro (@LT.lt Nat _ _ _) _ ?_ ?_); (· omega); (conv => whnf))
          | ((with_reducible refine @And.intro (∃ _, _ = _) _ ?_ ?_); (· exact ⟨_, rfl⟩); (conv => whnf))
          | ((with_reducible refine @And.intro (_ ∨ _) _ ?_ ?_); (· (first | exact Or.inl rfl | exact Or.inr rfl | exact t_b01 _ | assumption)); (conv => whnf))
          | ((with_reducible refine @And.intro (¬ (_ = _)) _ ?_ ?_); (· first | assumption | (with_reducible assumption)); (conv => whnf))
          | (refine hX _ _ _ _ _ _ ?_; (conv => whnf); fail_if_success show False)
          | (rw [c_si]; (conv => whnf))
          | (refine ⟨_, rfl, ?_⟩; (conv => whnf))
          | (refine ⟨_, _, rfl, ?_⟩; (conv => whnf))
          | (refine ⟨_, _, _, rfl, ?_⟩; (conv => whnf))
          | (refine ⟨_, _, _, _, rfl, ?_⟩; (conv => whnf))
          | (rw [c_ac ha h6]; (conv => whnf))
          | (rw [c_af ha h6]; (conv => whnf))
          | (rw [c_av ha h6]; (conv => whnf))
          | (rw [e90']; (conv => whnf))
          | (rw [e90'b]; (conv => whnf))
          | (rw [c_tl hr]; (conv => whnf))
          | (rw [c_t7 hr]; (conv => whnf))
          | (rw [c_tf hr (by decide)]; (conv => whnf))
          | (rw [c_t0 hr]; (conv => whnf))
          | (rw [c_t1 hr]; (conv => whnf))
          | (rw [c_t2 hr]; (conv => whnf))
          | (rw [c_t3 hr]; (conv => whnf))
          | (rw [c_t4 hr]; (conv => whnf))
          | (rw [c_t5 hr]; (conv => whnf))
          | (refine And.intro ⟨_, c_tl hr⟩ ?_; (conv => whnf))
          | (refine And.intro (fun c => ?_) (fun c => ?_) <;> (first | (exact absurd c (by decide +kernel)) | (exact absurd c (by assumption)) | (exact False.elim (c (by assumption))) | (conv => whnf)))
          | fail)
        exact fin
  have fin := loop 0 (Nat.zero_le _) (fun i hi => by omega)
  clear loop
  refine ⟨rfl, ?_⟩
  rw [hM] at fin hl2
  repeat' (first
    | ((with_reducible refine @And.intro (vp_in _ _) _ ?_ ?_); (· (first | with_reducible assumption | ((with_reducible refine t_vin ?_); decide) | ((with_reducible refine vp_in_nI ?_ ?_) <;> first | omega | decide) | (simp (disch := omega) only [xl_n, xl_m, nI_dec, nI_sb, nI_add, pk_mul]; (with_reducible refine vp_in_nI ?_ ?_) <;> first | omega | decide))); (conv => whnf))
    | (refine And.intro (by first | with_reducible assumption | exact (show cL _ _ = _ from rfl) | decide) ?_; (conv => whnf))
    | ((with_reducible refine @And.intro (_ = _) _ ?_ ?_); (· rfl); (conv => whnf))
    | ((with_reducible refine @And.intro (@LE.le Nat _ _ _) _ ?_ ?_); (· (first | exact Nat.zero_le _ | exact Nat.le_of_ble_eq_true rfl | omega)); (conv => whnf))
    | ((with_reducible refine @And.intro (@LT.lt Nat _ _ _) _ ?_ ?_); (· omega); (conv => whnf))
    | ((with_reducible refine @And.intro (∃ _, _ = _) _ ?_ ?_); (· exact ⟨_, rfl⟩); (conv => whnf))
    | ((with_reducible refine @And.intro (_ ∨ _) _ ?_ ?_); (· (first | exact Or.inl rfl | exact Or.inr rfl | exact t_b01 _ | assumption)); (conv => whnf))
    | ((with_reducible refine @And.intro (¬ (_ = _)) _ ?_ ?_); (· first | assumption | (with_reducible assumption)); (conv => whnf))
    | (refine hX _ _ _ _ _ _ ?_; (conv => whnf); fail_if_success show False)
    | (rw [c_si]; simp (disch := omega) only [xl_n, xl_m, nI_dec, nI_sb, xl_0, xl_1, cW_i, Nat.add_zero, Nat.reduceAdd, Nat.reduceMul, t_bn0, t_bn1, Classical.not_not, t_lt, nI_add, nI_1, pk_mul, nI_clamp, c_si, nI_eq, nI_leI, nM_ne, nM_ne, xm_u2_ne, xm_u2_at, reduceIte, Nat.reduceEqDiff]; (conv => whnf))
    | (refine ⟨_, rfl, ?_⟩; (conv => whnf))
    | (refine ⟨_, _, rfl, ?_⟩; (conv => whnf))
    | (refine ⟨_, _, _, rfl, ?_⟩; (conv => whnf))
    | (refine ⟨_, _, _, _, rfl, ?_⟩; (conv => whnf))
    | (refine ⟨a,rfl,ha,hl,?_⟩; (conv => whnf))
    | (refine ⟨a,rfl,ha,hl2,?_⟩; (conv => whnf))
    | (refine And.intro (fun c => ?_) (fun c => ?_) <;> (first | (exact absurd c (by decide +kernel)) | (conv => whnf)))
    | fail)
  exact fin
theorem ct_X1_castsOf : xm_Ct cI yX1_castsOf (ws_ yX1_castsOf cX1_castsOf 7 (some .int)) 17 0 0 S_X1_castsOf := xm_enter (rt := 0) (init := false) (by decide +kernel) rfl (fun h => by cases h) (Or.inl ⟨rfl, rfl⟩) (oX1_castsOf) body_X1_castsOf
theorem cv_X1_castsOf {own : String} {cc : ByteArray} {fr pc idx : Nat} (hdg : decode cc pc = .ok (.invokevirtual idx, 3)) (hl : xm_ml own idx yX1_castsOf) (hfr : 17 < fr) : xm_CallOK cI own cc fr pc (pc + 3) 5 0 0 (xm_this 0 S_X1_castsOf) := xm_callV 0 cI_good (ct_X1_castsOf) hdg hl q820 qs6 q116 q821 rfl rfl (by decide +kernel) hfr (by decide)
theorem g_is_min {L : List (List Int32)} : (nI (min 1 L.length) ≤ 0) = (g_is L = false) := by
  cases L with
  | nil => exact propext ⟨fun _ => rfl, fun _ => Int32.le_refl _⟩
  | cons c L =>
    rw [List.length_cons, Nat.min_eq_left (by omega)]
    exact propext ⟨fun h => absurd h (by decide +kernel), fun h => by cases h⟩
abbrev bX1_isCast_0 : List xE := [(.aload_n 0, 1, 0, 0, 0), (.aload_n 1, 2, 0, 0, 0), (.iload_n 2, 3, 0, 0, 0), (.iload_n 3, 4, 0, 0, 0), (.iconst 1, 5, 0, 0, 0), (.invokevirtual 344, 8, 0, 0, 9), (.ifCond .le 7, 11, 0, 15, 0), (.iconst 1, 12, 0, 0, 0), (.goto 4, 15, 0, 16, 0)]
abbrev bX1_isCast_15 : List xE := [(.iconst 0, 16, 0, 0, 0)]
abbrev bX1_isCast_16 : List xE := [(.ireturn, 17, 0, 0, 0)]
abbrev kX1_isCast : List (Nat × List xE) := [(0, bX1_isCast_0), (15, bX1_isCast_15), (16, bX1_isCast_16)]
abbrev lX1_isCast : List (Nat × Nat × Nat × xS) := [(5, 0, 0, xm_this 0 S_X1_castsOf)]
theorem oX1_isCast_0  : xm_okb cI RX1 cX1_isCast false 18 lX1_isCast bX1_isCast_0 0 := xo_0 dX1_isCast_0 rfl trivial (xo_0 dX1_isCast_1 rfl trivial (xo_0 dX1_isCast_2 rfl trivial (xo_0 dX1_isCast_3 rfl trivial (xo_0 dX1_isCast_4 rfl trivial (xo_c rfl (cv_X1_castsOf dX1_isCast_5 (Or.inl q818) (by decide)) (xo_0 dX1_isCast_8 rfl rfl (xo_0 dX1_isCast_11 rfl trivial (xo_0 dX1_isCast_12 rfl rfl (xo_n)))))))))
theorem oX1_isCast_15  : xm_okb cI RX1 cX1_isCast false 18 lX1_isCast bX1_isCast_15 15 := xo_0 dX1_isCast_15 rfl trivial (xo_n)
theorem oX1_isCast_16  : xm_okb cI RX1 cX1_isCast false 18 lX1_isCast bX1_isCast_16 16 := xo_0 dX1_isCast_16 rfl trivial (xo_n)
theorem oX1_isCast  : ∀ q ∈ kX1_isCast, xm_okb cI RX1 cX1_isCast false 18 lX1_isCast q.2 q.1 := by
  intro q hq
  simp only [List.mem_cons, List.not_mem_nil, or_false] at hq
  rcases hq with rfl | rfl | rfl
  · exact oX1_isCast_0  
  · exact oX1_isCast_15  
  · exact oX1_isCast_16  
def S_X1_isCast : xS := cU fun as P Z I Q QX => ∃ (r a : Nat) (L : List lC) (al : Int32), as = [.ref 0, .ref r, .int (nI a), .int al] ∧ c_tr P r ∧ c_good P Z I L ∧ g_ok (cG P I L) ∧ a < P.1 ∧ (∀ k, k < 32 → t_has al k = true → k < c_h I) ∧ ∀ J, c_cf I J → (¬ g_casts (cG P I L) (cA I r) al a = [] → ∀ k, k < gmany (cG P I L) a → J 18 k = g_first (g_casts (cG P I L) (cA I r) al a) k) → Q (some (.int (t_b (g_is (g_casts (cG P I L) (cA I r) al a))))) J
theorem body_X1_isCast : xm_Body 4 1 0 0 [] lX1_isCast kX1_isCast S_X1_isCast := by
  intro X avs w Q QX hX0 hS
  have hG := xm_go [] hX0
  have hX := xm_go [] hX0
  clear hX0
  obtain ⟨P, Z, I, rfl, r, a, L, al, rfl, hr, hg, hk0, ha, hal, hQ⟩ := hS
  refine ⟨rfl, ?_⟩
  repeat' (first
    | ((with_reducible refine @And.intro (vp_in _ _) _ ?_ ?_); (· (first | with_reducible assumption | ((with_reducible refine t_vin ?_); decide) | ((with_reducible refine vp_in_nI ?_ ?_) <;> first | omega | decide) | (simp (disch := omega) only [xl_n, xl_m, nI_dec, nI_sb, nI_add, pk_mul]; (with_reducible refine vp_in_nI ?_ ?_) <;> first | omega | decide))); (conv => whnf))
    | (refine And.intro (by first | with_reducible assumption | exact (show cL _ _ = _ from rfl) | decide) ?_; (conv => whnf))
    | ((with_reducible refine @And.intro (_ = _) _ ?_ ?_); (· rfl); (conv => whnf))
    | ((with_reducible refine @And.intro (@LE.le Nat _ _ _) _ ?_ ?_); (· (first | exact Nat.zero_le _ | exact Nat.le_of_ble_eq_true rfl | omega)); (conv => whnf))
    | ((with_reducible refine @And.intro (@LT.lt Nat _ _ _) _ ?_ ?_); (· omega); (conv => whnf))
    | ((with_reducible refine @And.intro (∃ _, _ = _) _ ?_ ?_); (· exact ⟨_, rfl⟩); (conv => whnf))
    | ((with_reducible refine @And.intro (_ ∨ _) _ ?_ ?_); (· (first | exact Or.inl rfl | exact Or.inr rfl | exact t_b01 _ | assumption)); (conv => whnf))
    | ((with_reducible refine @And.intro (¬ (_ = _)) _ ?_ ?_); (· first | assumption | (with_reducible assumption)); (conv => whnf))
    | (refine hX _ _ _ _ _ _ ?_; (conv => whnf); fail_if_success show False)
    | (rw [c_si]; (conv => whnf))
    | (refine ⟨_, rfl, ?_⟩; (conv => whnf))
    | (refine ⟨_, _, rfl, ?_⟩; (conv => whnf))
    | (refine ⟨_, _, _, rfl, ?_⟩; (conv => whnf))
    | (refine ⟨_, _, _, _, rfl, ?_⟩; (conv => whnf))
    | (refine ⟨r,a,L,al,1,rfl,hr,hg,hk0,ha,hal,Nat.le_refl _,(by decide),?_⟩; (conv => whnf))
    | (refine And.intro (fun c => ?_) (fun c => ?_) <;> (first | (exact absurd c (by decide +kernel)) | (conv => whnf)))
    | fail)
  intro J hJ hF
  have fin := hQ J hJ hF
  clear hQ
  (conv => whnf)
  repeat' (first
    | ((with_reducible refine @And.intro (vp_in _ _) _ ?_ ?_); (· (first | with_reducible assumption | ((with_reducible refine t_vin ?_); decide) | ((with_reducible refine vp_in_nI ?_ ?_) <;> first | omega | decide) | (simp (disch := omega) only [xl_n, xl_m, nI_dec, nI_sb, nI_add, pk_mul]; (with_reducible refine vp_in_nI ?_ ?_) <;> first | omega | decide))); (conv => whnf))
    | (refine And.intro (by first | with_reducible assumption | exact (show cL _ _ = _ from rfl) | decide) ?_; (conv => whnf))
    | ((with_reducible refine @And.intro (_ = _) _ ?_ ?_); (· rfl); (conv => whnf))
    | ((with_reducible refine @And.intro (@LE.le Nat _ _ _) _ ?_ ?_); (· (first | exact Nat.zero_le _ | exact Nat.le_of_ble_eq_true rfl | omega)); (conv => whnf))
    | ((with_reducible refine @And.intro (@LT.lt Nat _ _ _) _ ?_ ?_); (· omega); (conv => whnf))
    | ((with_reducible refine @And.intro (∃ _, _ = _) _ ?_ ?_); (· exact ⟨_, rfl⟩); (conv => whnf))
    | ((with_reducible refine @And.intro (_ ∨ _) _ ?_ ?_); (· (first | exact Or.inl rfl | exact Or.inr rfl | exact t_b01 _ | assumption)); (conv => whnf))
    | ((with_reducible refine @And.intro (¬ (_ = _)) _ ?_ ?_); (· first | assumption | (with_reducible assumption)); (conv => whnf))
    | (refine hX _ _ _ _ _ _ ?_; (conv => whnf); fail_if_success show False)
    | (rw [c_si]; (conv => whnf))
    | (refine ⟨_, rfl, ?_⟩; (conv => whnf))
    | (refine ⟨_, _, rfl, ?_⟩; (conv => whnf))
    | (refine ⟨_, _, _, rfl, ?_⟩; (conv => whnf))
    | (refine ⟨_, _, _, _, rfl, ?_⟩; (conv => whnf))
    | (refine And.intro (fun c => ?_) (fun c => ?_) <;> (first | (exact absurd c (by decide +kernel)) | (conv => whnf)))
    | fail)
  · have c1 : nI (min 1 (g_casts (cG P I L) (cA I r) al a).length) ≤ 0 := by assumption
    rw [g_is_min] at c1
    rw [c1] at fin
    exact fin
  · have c1 : ¬ nI (min 1 (g_casts (cG P I L) (cA I r) al a).length) ≤ 0 := by assumption
    rw [g_is_min, Bool.not_eq_false] at c1
    rw [c1] at fin
    exact fin
theorem ct_X1_isCast : xm_Ct cI yX1_isCast (ws_ yX1_isCast cX1_isCast 4 (some .boolean)) 18 0 0 S_X1_isCast := xm_enter (rt := 1) (init := false) (by decide +kernel) rfl (fun h => by cases h) (Or.inr (Or.inl ⟨rfl, Or.inl rfl⟩)) (oX1_isCast) body_X1_isCast
theorem cv_X1_isCast {own : String} {cc : ByteArray} {fr pc idx : Nat} (hdg : decode cc pc = .ok (.invokevirtual idx, 3)) (hl : xm_ml own idx yX1_isCast) (hfr : 18 < fr) : xm_CallOK cI own cc fr pc (pc + 3) 4 0 0 (xm_this 0 S_X1_isCast) := xm_callV 0 cI_good (ct_X1_isCast) hdg hl q816 qs5 q116 q817 rfl rfl (by decide +kernel) hfr (by decide)
