/-! ===== the component: fates ===== -/
set_option maxRecDepth 100000
set_option maxHeartbeats 1000000
def g_lt15 (l : Int32) : Int32 := (l >>> (nI 16 &&& 31)) &&& nI 15
theorem t_rem16 (y : Int32) : (y &&& nI 32767) - (y &&& nI 32767) / nI 16 * nI 16 = y &&& nI 15 := by
  rw [pk_and y (m := nI 32767) 15 (by decide), pk_and y (m := nI 15) 4 (by decide), pk_rem (by have := Nat.mod_lt y.toBitVec.toNat (show 0 < 2 ^ 15 by decide); omega) (by decide) (by decide)]
  congr 1
  exact Nat.mod_mod_of_dvd _ (by decide)
abbrev bX1_draw_0 : List xE := [(.aload_n 0, 1, 0, 0, 0), (.aload_n 0, 2, 0, 0, 0), (.getfield 392, 5, 0, 12, 0), (.ldc_w 395, 8, 1103515245, 0, 0), (.imul, 9, 0, 0, 0), (.sipush 12345, 12, 0, 0, 0), (.iadd, 13, 0, 0, 0), (.putfield 392, 16, 0, 12, 0), (.aload_n 0, 17, 0, 0, 0), (.getfield 392, 20, 0, 12, 0), (.bipush 16, 22, 0, 0, 0), (.ishr, 23, 0, 0, 0), (.sipush 32767, 26, 0, 0, 0), (.iand, 27, 0, 0, 0), (.iload_n 1, 28, 0, 0, 0), (.irem, 29, 0, 0, 0), (.ireturn, 30, 0, 0, 0)]
abbrev kX1_draw : List (Nat × List xE) := [(0, bX1_draw_0)]
abbrev lX1_draw : List (Nat × Nat × Nat × xS) := []
theorem oX1_draw_0  : xm_okb cI RX1 cX1_draw false 1 lX1_draw bX1_draw_0 0 := xo_0 dX1_draw_0 rfl trivial (xo_0 dX1_draw_1 rfl trivial (xo_0 dX1_draw_2 rfl (xm_fg_of (Or.inl q731) (by decide) rfl (by decide) rfl rfl (Or.inl rfl) rfl) (xo_0 dX1_draw_5 rfl q1914 (xo_0 dX1_draw_8 rfl trivial (xo_0 dX1_draw_9 rfl (xo_sipush (by decide +kernel)) (xo_0 dX1_draw_12 rfl trivial (xo_0 dX1_draw_13 rfl (xm_fp_of (xm_fg_of (Or.inl q731) (by decide) rfl (by decide) rfl rfl (Or.inl rfl) rfl) (by decide) rfl (Or.inl ⟨rfl, rfl⟩) rfl) (xo_0 dX1_draw_16 rfl trivial (xo_0 dX1_draw_17 rfl (xm_fg_of (Or.inl q731) (by decide) rfl (by decide) rfl rfl (Or.inl rfl) rfl) (xo_0 dX1_draw_20 rfl (xo_bipush (by decide +kernel)) (xo_0 dX1_draw_22 rfl trivial (xo_0 dX1_draw_23 rfl (xo_sipush (by decide +kernel)) (xo_0 dX1_draw_26 rfl trivial (xo_0 dX1_draw_27 rfl trivial (xo_0 dX1_draw_28 rfl trivial (xo_0 dX1_draw_29 rfl trivial (xo_n)))))))))))))))))
theorem oX1_draw  : ∀ q ∈ kX1_draw, xm_okb cI RX1 cX1_draw false 1 lX1_draw q.2 q.1 := by
  intro q hq
  simp only [List.mem_cons, List.not_mem_nil, or_false] at hq
  subst hq
  exact oX1_draw_0  
def S_X1_draw : xS := cU fun as P Z I Q QX => as = [.ref 0, .int (nI 16)] ∧ Q (some (.int (g_lt15 (g_lot (I 0 12))))) (xm_u2 I 0 12 (g_lot (I 0 12)))
theorem body_X1_draw : xm_Body 2 0 0 0 [] lX1_draw kX1_draw S_X1_draw := by
  intro X avs w Q QX hX0 hS
  have hG := xm_go [] hX0
  have hX := xm_go [] hX0
  clear hX0
  obtain ⟨P, Z, I, rfl, rfl, hQ⟩ := hS
  have d1 : ¬ nI 16 = 0 := by decide +kernel
  have e1 : xm_u2 I 0 12 (g_lot (I 0 12)) 0 12 = g_lot (I 0 12) := by rw [xm_u2_at, if_pos rfl]
  have e2 : g_lt15 (g_lot (I 0 12)) = ((xm_u2 I 0 12 (g_lot (I 0 12)) 0 12 >>> (Int32.ofInt 16 &&& 31)) &&& Int32.ofInt 32767) - ((xm_u2 I 0 12 (g_lot (I 0 12)) 0 12 >>> (Int32.ofInt 16 &&& 31)) &&& Int32.ofInt 32767) / nI 16 * nI 16 := by
    rw [e1, show Int32.ofInt 32767 = nI 32767 by decide +kernel, show Int32.ofInt 16 = nI 16 by decide +kernel, t_rem16]
    rfl
  rw [e2] at hQ
  clear e1 e2
  refine ⟨rfl, ?_⟩
  repeat' (first
    | ((with_reducible refine @And.intro (vp_in _ _) _ ?_ ?_); (· (first | with_reducible assumption | ((with_reducible refine t_vin ?_); decide) | ((with_reducible refine vp_in_nI ?_ ?_) <;> first | omega | decide) | (simp (disch := omega) only [xl_n, xl_m, nI_dec, nI_sb, nI_add, pk_mul]; (with_reducible refine vp_in_nI ?_ ?_) <;> first | omega | decide))); (conv => whnf))
    | (refine And.intro (by first | with_reducible assumption | exact (show cL _ _ = _ from rfl) | decide) ?_; (conv => whnf))
    | ((with_reducible refine @And.intro (_ = _) _ ?_ ?_); (· rfl); (conv => whnf))
    | ((with_reducible refine @And.intro (@LE.le Nat _ _ _) _ ?_ ?_); (· (first | exact Nat.zero_le _ | exact Nat.le_of_ble_eq_true rfl | omega)); (conv => whnf))
    | ((with_reducible refine @And.intro (@LT.lt Nat _ _ _) _ ?_ ?_); (· omega); (conv => whnf))
    | ((with_reducible refine @And.intro (∃ _, _ = _) _ ?_ ?_); (· exact ⟨_, rfl⟩); (conv => whnf))
    | ((with_reducible refine @And.intro (_ ∨ _) _ ?_ ?_); (· (first | exact Or.inl rfl | exact Or.inr rfl | exact t_b01 _ | assumption)); (conv => whnf))
    | ((with_reducible refine @And.intro (¬ (_ = _)) _ ?_ ?_); (· first | assumption | (with_reducible assumption)); (conv => whnf))
    | (refine hX _ _ _ _ _ _ ?_; (conv => whnf); fail_if_success show False)
    | (rw [c_si]; (conv => whnf))
    | (refine ⟨_, rfl, ?_⟩; (conv => whnf))
    | (refine ⟨_, _, rfl, ?_⟩; (conv => whnf))
    | (refine ⟨_, _, _, rfl, ?_⟩; (conv => whnf))
    | (refine ⟨_, _, _, _, rfl, ?_⟩; (conv => whnf))
    | (refine And.intro (fun c => ?_) (fun c => ?_) <;> (first | (exact absurd c (by decide +kernel)) | (exact absurd c (by assumption)) | (exact False.elim (c (by assumption))) | (conv => whnf)))
    | fail)
  exact hQ
theorem ct_X1_draw : xm_Ct cI yX1_draw (ws_ yX1_draw cX1_draw 2 (some .int)) 1 0 0 S_X1_draw := xm_enter (rt := 0) (init := false) (by decide +kernel) rfl (fun h => by cases h) (Or.inl ⟨rfl, rfl⟩) (oX1_draw) body_X1_draw
theorem cv_X1_draw {own : String} {cc : ByteArray} {fr pc idx : Nat} (hdg : decode cc pc = .ok (.invokevirtual idx, 3)) (hl : xm_ml own idx yX1_draw) (hfr : 1 < fr) : xm_CallOK cI own cc fr pc (pc + 3) 2 0 0 (xm_this 0 S_X1_draw) := xm_callV 0 cI_good (ct_X1_draw) hdg hl q1912 qs49 q116 q1913 rfl rfl (by decide +kernel) hfr (by decide)
theorem g_lt15_0 (l : Int32) : nI 0 ≤ g_lt15 l := by
  unfold g_lt15
  obtain ⟨j, hj, e⟩ := pk_andE (l >>> (nI 16 &&& 31)) (m := nI 15) 4 (by decide)
  rw [e]
  exact nI_le (Nat.zero_le _) (by omega)
theorem g_lots_s' {K : gK} {T : gT} {b l : Int32} {n : Nat} : g_lots K T b (n + 1) l = if g_al K T n = true then (g_lot (g_lots K T b n l).1, (g_lots K T b n l).2 ||| (if b ≤ g_lt15 (g_lot (g_lots K T b n l).1) then nI 0 else t_bit n)) else g_lots K T b n l := rfl
theorem g_lots_0 {K : gK} {T : gT} {b l : Int32} (hb : b ≤ nI 0) : ∀ n, (g_lots K T b n l).2 = nI 0
  | 0 => rfl
  | n + 1 => by
    rw [g_lots_s']
    split
    · show (g_lots K T b n l).2 ||| _ = _
      rw [g_lots_0 hb n, if_pos (Int32.le_trans hb (g_lt15_0 _))]
      decide +kernel
    · exact g_lots_0 hb n
theorem c_sp_12 {I : tI} {v : Int32} : c_sp I (xm_u2 I 0 12 v) := c_sp.u0 (by omega)
theorem c_ts_12 {P : cP} {Z : cX} {I : tI} {L : List lC} {v : Int32} (h : c_ts P Z I 7 L) : c_ts P Z (xm_u2 I 0 12 v) 7 L ∧ cA (xm_u2 I 0 12 v) 7 = cA I 7 := by
  have e : ∀ b : Nat, b ≠ 0 → xm_u2 I 0 12 v b = I b := fun b hb => funext fun j => xm_u2_ne hb j
  obtain ⟨h1, h2, h3, h4, h5⟩ := h
  have eA : cA (xm_u2 I 0 12 v) 7 = cA I 7 := cA_eq (fun k hk => e _ (by omega)) (by rw [e 7 (by omega)])
  refine ⟨⟨h1, ?_, fun k hk => ?_, by rw [eA]; exact h4, h5.eq fun a ha => e a (by omega)⟩, eA⟩
  · unfold c_ok c_h c_p at *
    rw [e 1 (by omega)]
    exact h2
  · unfold c_h at hk
    rw [e 1 (by omega)] at hk
    rw [eA, e (10 * 7) (by omega), e 31 (by omega), e 7 (by omega)]
    exact h3 k hk
abbrev bX1_fated_0 : List xE := [(.aload_n 0, 1, 0, 0, 0), (.getfield 65, 4, 0, 7, 1), (.aload_n 0, 5, 0, 0, 0), (.getfield 58, 8, 0, 5, 1), (.invokevirtual 110, 11, 0, 0, 9), (.astore 4, 13, 0, 0, 0), (.aload_n 0, 14, 0, 0, 0), (.iload_n 1, 15, 0, 0, 0), (.putfield 392, 18, 0, 12, 0), (.iconst 0, 19, 0, 0, 0), (.istore 5, 21, 0, 0, 0)]
abbrev bX1_fated_21 : List xE := [(.iload 5, 23, 0, 0, 0), (.iload_n 3, 24, 0, 0, 0), (.if_icmp .ge 144, 27, 0, 168, 0), (.aload 4, 29, 0, 0, 0), (.invokevirtual 396, 32, 0, 1, 9), (.iconst 0, 33, 0, 0, 0), (.istore 6, 35, 0, 0, 0), (.iconst 0, 36, 0, 0, 0), (.istore 7, 38, 0, 0, 0)]
abbrev bX1_fated_38 : List xE := [(.iload 7, 40, 0, 0, 0), (.aload_n 0, 41, 0, 0, 0), (.getfield 31, 44, 0, 0, 1), (.getfield 126, 47, 1, 11, 0), (.if_icmp .ge 40, 50, 0, 87, 0), (.aload 4, 52, 0, 0, 0), (.getfield 226, 55, 7, 0, 1), (.iload 7, 57, 0, 0, 0), (.iaload, 58, 0, 0, 0), (.iconst 1, 59, 0, 0, 0), (.if_icmp .ne 22, 62, 0, 81, 0), (.aload_n 0, 63, 0, 0, 0), (.bipush 16, 65, 0, 0, 0), (.invokevirtual 399, 68, 0, 2, 9), (.iload_n 2, 69, 0, 0, 0), (.if_icmp .ge 12, 72, 0, 81, 0), (.iload 6, 74, 0, 0, 0), (.iconst 1, 75, 0, 0, 0), (.iload 7, 77, 0, 0, 0), (.ishl, 78, 0, 0, 0), (.ior, 79, 0, 0, 0), (.istore 6, 81, 0, 0, 0)]
abbrev bX1_fated_81 : List xE := [(.iinc 7 1, 84, 0, 0, 0), (.goto (-46), 87, 0, 38, 0)]
abbrev bX1_fated_87 : List xE := [(.iconst 0, 88, 0, 0, 0), (.istore 7, 90, 0, 0, 0)]
abbrev bX1_fated_90 : List xE := [(.iload 7, 92, 0, 0, 0), (.aload_n 0, 93, 0, 0, 0), (.getfield 31, 96, 0, 0, 1), (.getfield 126, 99, 1, 11, 0), (.if_icmp .ge 58, 102, 0, 157, 0), (.aload 4, 104, 0, 0, 0), (.getfield 226, 107, 7, 0, 1), (.iload 7, 109, 0, 0, 0), (.iaload, 110, 0, 0, 0), (.iconst 1, 111, 0, 0, 0), (.if_icmp .ne 40, 114, 0, 151, 0), (.iload 6, 116, 0, 0, 0), (.iload 7, 118, 0, 0, 0), (.ishr, 119, 0, 0, 0), (.iconst 1, 120, 0, 0, 0), (.iand, 121, 0, 0, 0), (.iconst 1, 122, 0, 0, 0), (.if_icmp .eq 21, 125, 0, 143, 0), (.aload_n 0, 126, 0, 0, 0), (.getfield 31, 129, 0, 0, 1), (.getfield 223, 132, 1, 2, 1), (.iload 7, 134, 0, 0, 0), (.iaload, 135, 0, 0, 0), (.aload 4, 137, 0, 0, 0), (.getfield 201, 140, 7, 6, 0), (.if_icmp .ne 11, 143, 0, 151, 0)]
abbrev bX1_fated_143 : List xE := [(.aload 4, 145, 0, 0, 0), (.iload 7, 147, 0, 0, 0), (.invokevirtual 311, 150, 0, 3, 9), (.pop, 151, 0, 0, 0)]
abbrev bX1_fated_151 : List xE := [(.iinc 7 1, 154, 0, 0, 0), (.goto (-64), 157, 0, 90, 0)]
abbrev bX1_fated_157 : List xE := [(.aload 4, 159, 0, 0, 0), (.invokevirtual 402, 162, 0, 4, 9), (.iinc 5 1, 165, 0, 0, 0), (.goto (-144), 168, 0, 21, 0)]
abbrev bX1_fated_168 : List xE := [(.aload 4, 170, 0, 0, 0), (.areturn, 171, 0, 0, 0)]
abbrev kX1_fated : List (Nat × List xE) := [(0, bX1_fated_0), (21, bX1_fated_21), (38, bX1_fated_38), (81, bX1_fated_81), (87, bX1_fated_87), (90, bX1_fated_90), (143, bX1_fated_143), (151, bX1_fated_151), (157, bX1_fated_157), (168, bX1_fated_168)]
abbrev lX1_fated : List (Nat × Nat × Nat × xS) := [(2, 0, 0, xm_this 7 S_X10_becomes), (1, 0, 0, xm_this 7 S_X10_begin), (2, 0, 0, xm_this 0 S_X1_draw), (2, 0, 0, xm_this 7 S_X10_dies), (1, 0, 0, xm_this 7 S_X10_choices)]
theorem oX1_fated_0  : xm_okb cI RX1 cX1_fated false 163 lX1_fated bX1_fated_0 0 := xo_0 dX1_fated_0 rfl trivial (xo_1 dX1_fated_1 rfl (xm_fg_of (Or.inl q726) (by decide) rfl (by decide) rfl rfl (Or.inl rfl) rfl) (xo_0 dX1_fated_4 rfl trivial (xo_1 dX1_fated_5 rfl (xm_fg_of (Or.inl q724) (by decide) rfl (by decide) rfl rfl (Or.inl rfl) rfl) (xo_c rfl (cv_X10_becomes dX1_fated_8 (Or.inl q711) (by decide)) (xo_0 dX1_fated_11 rfl trivial (xo_0 dX1_fated_13 rfl trivial (xo_0 dX1_fated_14 rfl trivial (xo_0 dX1_fated_15 rfl (xm_fp_of (xm_fg_of (Or.inl q731) (by decide) rfl (by decide) rfl rfl (Or.inl rfl) rfl) (by decide) rfl (Or.inl ⟨rfl, rfl⟩) rfl) (xo_0 dX1_fated_18 rfl trivial (xo_0 dX1_fated_19 rfl trivial (xo_n)))))))))))
theorem oX1_fated_21  : xm_okb cI RX1 cX1_fated false 163 lX1_fated bX1_fated_21 21 := xo_0 dX1_fated_21 rfl trivial (xo_0 dX1_fated_23 rfl trivial (xo_0 dX1_fated_24 rfl rfl (xo_0 dX1_fated_27 rfl trivial (xo_c rfl (cv_X10_begin dX1_fated_29 (Or.inl q1909) (by decide)) (xo_0 dX1_fated_32 rfl trivial (xo_0 dX1_fated_33 rfl trivial (xo_0 dX1_fated_35 rfl trivial (xo_0 dX1_fated_36 rfl trivial (xo_n)))))))))
theorem oX1_fated_38  : xm_okb cI RX1 cX1_fated false 163 lX1_fated bX1_fated_38 38 := xo_0 dX1_fated_38 rfl trivial (xo_0 dX1_fated_40 rfl trivial (xo_1 dX1_fated_41 rfl (xm_fg_of (Or.inl q716) (by decide) rfl (by decide) rfl rfl (Or.inl rfl) rfl) (xo_0 dX1_fated_44 rfl (xm_fg_of (Or.inr ⟨_, q556⟩) (by decide) rfl (by decide) rfl rfl (Or.inl rfl) rfl) (xo_0 dX1_fated_47 rfl rfl (xo_0 dX1_fated_50 rfl trivial (xo_1 dX1_fated_52 rfl (xm_fg_of (Or.inr ⟨_, q663⟩) (by decide) rfl (by decide) rfl rfl (Or.inl rfl) rfl) (xo_0 dX1_fated_55 rfl trivial (xo_0 dX1_fated_57 rfl trivial (xo_0 dX1_fated_58 rfl trivial (xo_0 dX1_fated_59 rfl rfl (xo_0 dX1_fated_62 rfl trivial (xo_0 dX1_fated_63 rfl (xo_bipush (by decide +kernel)) (xo_c rfl (cv_X1_draw dX1_fated_65 (Or.inl q1910) (by decide)) (xo_0 dX1_fated_68 rfl trivial (xo_0 dX1_fated_69 rfl rfl (xo_0 dX1_fated_72 rfl trivial (xo_0 dX1_fated_74 rfl trivial (xo_0 dX1_fated_75 rfl trivial (xo_0 dX1_fated_77 rfl trivial (xo_0 dX1_fated_78 rfl trivial (xo_0 dX1_fated_79 rfl trivial (xo_n))))))))))))))))))))))
theorem oX1_fated_81  : xm_okb cI RX1 cX1_fated false 163 lX1_fated bX1_fated_81 81 := xo_0 dX1_fated_81 rfl trivial (xo_0 dX1_fated_84 rfl rfl (xo_n))
theorem oX1_fated_87  : xm_okb cI RX1 cX1_fated false 163 lX1_fated bX1_fated_87 87 := xo_0 dX1_fated_87 rfl trivial (xo_0 dX1_fated_88 rfl trivial (xo_n))
theorem oX1_fated_90  : xm_okb cI RX1 cX1_fated false 163 lX1_fated bX1_fated_90 90 := xo_0 dX1_fated_90 rfl trivial (xo_0 dX1_fated_92 rfl trivial (xo_1 dX1_fated_93 rfl (xm_fg_of (Or.inl q716) (by decide) rfl (by decide) rfl rfl (Or.inl rfl) rfl) (xo_0 dX1_fated_96 rfl (xm_fg_of (Or.inr ⟨_, q556⟩) (by decide) rfl (by decide) rfl rfl (Or.inl rfl) rfl) (xo_0 dX1_fated_99 rfl rfl (xo_0 dX1_fated_102 rfl trivial (xo_1 dX1_fated_104 rfl (xm_fg_of (Or.inr ⟨_, q663⟩) (by decide) rfl (by decide) rfl rfl (Or.inl rfl) rfl) (xo_0 dX1_fated_107 rfl trivial (xo_0 dX1_fated_109 rfl trivial (xo_0 dX1_fated_110 rfl trivial (xo_0 dX1_fated_111 rfl rfl (xo_0 dX1_fated_114 rfl trivial (xo_0 dX1_fated_116 rfl trivial (xo_0 dX1_fated_118 rfl trivial (xo_0 dX1_fated_119 rfl trivial (xo_0 dX1_fated_120 rfl trivial (xo_0 dX1_fated_121 rfl trivial (xo_0 dX1_fated_122 rfl rfl (xo_0 dX1_fated_125 rfl trivial (xo_1 dX1_fated_126 rfl (xm_fg_of (Or.inl q716) (by decide) rfl (by decide) rfl rfl (Or.inl rfl) rfl) (xo_1 dX1_fated_129 rfl (xm_fg_of (Or.inr ⟨_, q525⟩) (by decide) rfl (by decide) rfl rfl (Or.inl rfl) rfl) (xo_0 dX1_fated_132 rfl trivial (xo_0 dX1_fated_134 rfl trivial (xo_0 dX1_fated_135 rfl trivial (xo_0 dX1_fated_137 rfl (xm_fg_of (Or.inr ⟨_, q675⟩) (by decide) rfl (by decide) rfl rfl (Or.inl rfl) rfl) (xo_0 dX1_fated_140 rfl rfl (xo_n))))))))))))))))))))))))))
theorem oX1_fated_143  : xm_okb cI RX1 cX1_fated false 163 lX1_fated bX1_fated_143 143 := xo_0 dX1_fated_143 rfl trivial (xo_0 dX1_fated_145 rfl trivial (xo_c rfl (cv_X10_dies dX1_fated_147 (Or.inl q1708) (by decide)) (xo_0 dX1_fated_150 rfl trivial (xo_n))))
theorem oX1_fated_151  : xm_okb cI RX1 cX1_fated false 163 lX1_fated bX1_fated_151 151 := xo_0 dX1_fated_151 rfl trivial (xo_0 dX1_fated_154 rfl rfl (xo_n))
theorem oX1_fated_157  : xm_okb cI RX1 cX1_fated false 163 lX1_fated bX1_fated_157 157 := xo_0 dX1_fated_157 rfl trivial (xo_c rfl (cv_X10_choices dX1_fated_159 (Or.inl q1915) (by decide)) (xo_0 dX1_fated_162 rfl trivial (xo_0 dX1_fated_165 rfl rfl (xo_n))))
theorem oX1_fated_168  : xm_okb cI RX1 cX1_fated false 163 lX1_fated bX1_fated_168 168 := xo_0 dX1_fated_168 rfl trivial (xo_0 dX1_fated_170 rfl trivial (xo_n))
theorem oX1_fated  : ∀ q ∈ kX1_fated, xm_okb cI RX1 cX1_fated false 163 lX1_fated q.2 q.1 := by
  intro q hq
  simp only [List.mem_cons, List.not_mem_nil, or_false] at hq
  rcases hq with rfl | rfl | rfl | rfl | rfl | rfl | rfl | rfl | rfl | rfl
  · exact oX1_fated_0  
  · exact oX1_fated_21  
  · exact oX1_fated_38  
  · exact oX1_fated_81  
  · exact oX1_fated_87  
  · exact oX1_fated_90  
  · exact oX1_fated_143  
  · exact oX1_fated_151  
  · exact oX1_fated_157  
  · exact oX1_fated_168  
def S_X1_fated : xS := cU fun as P Z I Q QX => ∃ (seed q : Int32) (n : Nat) (L : List lC), as = [.ref 0, .int seed, .int q, .int (nI n)] ∧ c_good P Z I L ∧ g_ok (cG P I L) ∧ n ≤ 40 ∧ ∀ J, c_sp I J → c_ts P Z J 7 L → cA J 7 = g_fated (cG P I L) seed q n → Q (some (.ref 7)) J
theorem body_X1_fated : xm_Body 8 3 0 0 [] lX1_fated kX1_fated S_X1_fated := by
  intro X avs w Q QX hX0 hS
  have hG := xm_go [] hX0
  have hX := xm_go [21,38,81,90,143,151] hX0
  clear hX0
  obtain ⟨P, Z, I, rfl, seed, q, n, L, rfl, hg, hk0, hn40, hQ⟩ := hS
  have hok := hg.ok
  obtain ⟨hn, h9, hm, h8⟩ := id hok
  have h5 := c_5 (P := P)
  have h7 := c_7 (P := P)
  have ht := hg.now
  obtain ⟨y0, hy0, ey⟩ := hk0.now.1
  have l21 : ∀ y, y ≤ n → ∀ J, c_sp I J → c_ts P Z J 7 L → J 7 6 = nI (y0 + y) → cA J 7 = (g_fate (cK I L) q y (seed, cA I 5)).2 → (¬ q ≤ nI 0 → J 0 12 = (g_fate (cK I L) q y (seed, cA I 5)).1) → ∀ o o', (o = none ∨ ∃ z, o = some (.int z)) → (o' = none ∨ ∃ z, o' = some (.int z)) → X 21 [some (.ref 0), some (.int seed), some (.int q), some (.int (nI n)), some (.ref 7), some (.int (nI y)), o, o'] [] (cW P Z J) 0 0 := by
    refine t_for fun y h1 ih J hJ tJ yJ eA es o o' ho ho' => ?_
    by_cases hy : y = n
    · subst hy
      have d1 : nI y ≤ nI y := Int32.le_refl _
      have fin := hQ J hJ tJ eA
      clear ih hQ
      rcases ho with rfl | ⟨z, rfl⟩
      all_goals rcases ho' with rfl | ⟨z', rfl⟩
      all_goals
        refine hG _ _ _ _ _ _ ?_
        (conv => whnf)
        repeat' (first
          | ((with_reducible refine @And.intro (vp_in _ _) _ ?_ ?_); (· (first | with_reducible assumption | ((with_reducible refine t_vin ?_); decide) | ((with_reducible refine vp_in_nI ?_ ?_) <;> first | omega | decide) | (simp (disch := omega) only [xl_n, xl_m, nI_dec, nI_sb, nI_add, pk_mul]; (with_reducible refine vp_in_nI ?_ ?_) <;> first | omega | decide))); (conv => whnf))
          | (refine And.intro (by first | with_reducible assumption | exact (show cL _ _ = _ from rfl) | decide) ?_; (conv => whnf))
          | ((with_reducible refine @And.intro (_ = _) _ ?_ ?_); (· rfl); (conv => whnf))
          | ((with_reducible refine @And.intro (@LE.le Nat _ _ _) _ ?_ ?_); (· (first | exact Nat.zero_le _ | exact Nat.le_of_ble_eq_true rfl | omega)); (conv => whnf))
          | ((with_reducible refine @And.intro (@LT.lt Nat _ _ _) _ ?_ ?_); (· omega); (conv => whnf))
          | ((with_reducible refine @And.intro (∃ _, _ = _) _ ?_ ?_); (· exact ⟨_, rfl⟩); (conv => whnf))
          | ((with_reducible refine @And.intro (_ ∨ _) _ ?_ ?_); (· (first | exact Or.inl rfl | exact Or.inr rfl | exact t_b01 _ | assumption)); (conv => whnf))
          | ((with_reducible refine @And.intro (¬ (_ = _)) _ ?_ ?_); (· first | assumption | (with_reducible assumption)); (conv => whnf))
          | (refine hX _ _ _ _ _ _ ?_; (conv => whnf); fail_if_success show False)
          | (rw [c_si]; (conv => whnf))
          | (refine ⟨_, rfl, ?_⟩; (conv => whnf))
          | (refine ⟨_, _, rfl, ?_⟩; (conv => whnf))
          | (refine ⟨_, _, _, rfl, ?_⟩; (conv => whnf))
          | (refine ⟨_, _, _, _, rfl, ?_⟩; (conv => whnf))
          | (refine And.intro (fun c => ?_) (fun c => ?_) <;> (first | (exact absurd c (by decide +kernel)) | (exact absurd c (by assumption)) | (exact False.elim (c (by assumption))) | (conv => whnf)))
          | fail)
        exact fin
    · have d1 : ¬ nI n ≤ nI y := by
        rw [nI_leI (by omega) (by omega)]
        omega
      have hy1 : y0 + y < 100000 := by omega
      have ih := ih (y + 1) (by omega) (by omega)
      clear hQ
      -- behind begin
      have after : ∀ M, c_sc 7 J M → c_ts P Z M 7 L → cA M 7 = g_next (cA J 7) → X 38 [some (.ref 0), some (.int seed), some (.int q), some (.int (nI n)), some (.ref 7), some (.int (nI y)), some (.int (nI 0)), some (.int (nI 0))] [] (cW P Z M) 0 0 := by
        intro M hM tM eM
        have sM := hJ.tr hM.sp
        have eKM := sM.kp.K (L := L) hok hg.2.2.2.2.1
        have sl : M 0 12 = J 0 12 := by rw [hM 0 (by omega) (by omega) (by omega)]
        have yM : M 7 6 = nI (y0 + (y + 1)) := by
          rw [← cA_gy (I := M) (r := 7), eM]
          show gy (cA J 7) + nI 1 = _
          rw [cA_gy, yJ, nI_add]
          rfl
        obtain ⟨T, hT⟩ : ∃ T, T = cA M 7 := ⟨_, rfl⟩
        have edoom : (g_lots (cK I L) T q (c_h I) (M 0 12)).2 = (g_drawn (cK I L) T q (g_fate (cK I L) q y (seed, cA I 5)).1).2 ∧ (¬ q ≤ nI 0 → (g_lots (cK I L) T q (c_h I) (M 0 12)).1 = (g_drawn (cK I L) T q (g_fate (cK I L) q y (seed, cA I 5)).1).1) := by
          unfold g_drawn
          by_cases hq : q ≤ nI 0
          · rw [if_pos hq]
            exact ⟨g_lots_0 hq _, fun z => absurd hq z⟩
          · rw [if_neg hq, sl, es hq]
            exact ⟨rfl, fun _ => rfl⟩
        obtain ⟨doom, hdoom⟩ : ∃ doom, doom = (g_lots (cK I L) T q (c_h I) (M 0 12)).2 := ⟨_, rfl⟩
        rw [← hdoom] at edoom
        -- a year is over
        have over : ∀ N, c_sp I N → c_ts P Z N 7 L → cA N 7 = g_wears (cK I L) (c_p I) (g_fills (cK I L) (c_p I) (g_deaths (cK I L) doom (c_h I) T)) → (N 0 12 = (g_lots (cK I L) T q (c_h I) (M 0 12)).1) → ∀ w w', X 21 [some (.ref 0), some (.int seed), some (.int q), some (.int (nI n)), some (.ref 7), some (.int (nI (y + 1))), some (.int w), some (.int w')] [] (cW P Z N) 0 0 := by
          intro N hN tN eN sN w w'
          have eT : T = g_next (g_fate (cK I L) q y (seed, cA I 5)).2 := by rw [hT, eM, eA]
          have eF : (g_fate (cK I L) q (y + 1) (seed, cA I 5)).2 = cA N 7 := by
            rw [eN, edoom.1, eT]
            rfl
          refine ih N hN tN ?_ eF.symm ?_ (some (.int w)) (some (.int w')) (Or.inr ⟨_, rfl⟩) (Or.inr ⟨_, rfl⟩)
          · rw [← cA_gy (I := N) (r := 7), ← eF]
            show gy (g_ends _ _ (g_next _)) = _
            rw [gy_ends]
            show gy (g_fate (cK I L) q y (seed, cA I 5)).2 + nI 1 = _
            rw [← eA, cA_gy, yJ, nI_add]
            rfl
          · intro hq
            rw [sN, edoom.2 hq, eT]
            rfl
        clear ih es
        -- deaths
        have l90 : ∀ h, h ≤ c_h I → ∀ N, c_sp I N → c_ts P Z N 7 L → N 7 6 = nI (y0 + (y + 1)) → cA N 7 = g_deaths (cK I L) doom h T → N 0 12 = (g_lots (cK I L) T q (c_h I) (M 0 12)).1 → X 90 [some (.ref 0), some (.int seed), some (.int q), some (.int (nI n)), some (.ref 7), some (.int (nI y)), some (.int doom), some (.int (nI h))] [] (cW P Z N) 0 0 := by
          refine t_for fun h h1 jh N hN tN yN eN sN => ?_
          have eKN := hN.kp.K (L := L) hok hg.2.2.2.2.1
          have hnN : N 1 11 = nI (c_h I) := by rw [hN.kp.f (b := 1) (by omega)]; exact hn
          by_cases hh : h = c_h I
          · subst hh
            have d2 : N 1 11 ≤ nI (c_h I) := by rw [hnN]; exact Int32.le_refl _
            clear jh
            refine hG _ _ _ _ _ _ ?_
            (conv => whnf)
            repeat' (first
              | ((with_reducible refine @And.intro (vp_in _ _) _ ?_ ?_); (· (first | with_reducible assumption | ((with_reducible refine t_vin ?_); decide) | ((with_reducible refine vp_in_nI ?_ ?_) <;> first | omega | decide) | (simp (disch := omega) only [xl_n, xl_m, nI_dec, nI_sb, nI_add, pk_mul]; (with_reducible refine vp_in_nI ?_ ?_) <;> first | omega | decide))); (conv => whnf))
              | (refine And.intro (by first | with_reducible assumption | exact (show cL _ _ = _ from rfl) | decide) ?_; (conv => whnf))
              | ((with_reducible refine @And.intro (_ = _) _ ?_ ?_); (· rfl); (conv => whnf))
              | ((with_reducible refine @And.intro (@LE.le Nat _ _ _) _ ?_ ?_); (· (first | exact Nat.zero_le _ | exact Nat.le_of_ble_eq_true rfl | omega)); (conv => whnf))
              | ((with_reducible refine @And.intro (@LT.lt Nat _ _ _) _ ?_ ?_); (· omega); (conv => whnf))
              | ((with_reducible refine @And.intro (∃ _, _ = _) _ ?_ ?_); (· exact ⟨_, rfl⟩); (conv => whnf))
              | ((with_reducible refine @And.intro (_ ∨ _) _ ?_ ?_); (· (first | exact Or.inl rfl | exact Or.inr rfl | exact t_b01 _ | assumption)); (conv => whnf))
              | ((with_reducible refine @And.intro (¬ (_ = _)) _ ?_ ?_); (· first | assumption | (with_reducible assumption)); (conv => whnf))
              | (refine hX _ _ _ _ _ _ ?_; (conv => whnf); fail_if_success show False)
              | (rw [c_si]; (conv => whnf))
              | (refine ⟨_, rfl, ?_⟩; (conv => whnf))
              | (refine ⟨_, _, rfl, ?_⟩; (conv => whnf))
              | (refine ⟨_, _, _, rfl, ?_⟩; (conv => whnf))
              | (refine ⟨_, _, _, _, rfl, ?_⟩; (conv => whnf))
              | (refine ⟨7,L,rfl,tN,?_⟩; (conv => whnf))
              | (refine And.intro (fun c => ?_) (fun c => ?_) <;> (first | (exact absurd c (by decide +kernel)) | (exact absurd c (by assumption)) | (exact False.elim (c (by assumption))) | (conv => whnf)))
              | fail)
            intro N2 h2 t2 e2
            rw [eKN, hN.kp.hp.2, eN] at e2
            have fin := over N2 (hN.tr h2.sp) t2 e2 (by rw [h2 0 (by omega) (by omega) (by omega)]; exact sN) doom (nI (c_h I))
            clear over
            (conv => whnf)
            repeat' (first
              | ((with_reducible refine @And.intro (vp_in _ _) _ ?_ ?_); (· (first | with_reducible assumption | ((with_reducible refine t_vin ?_); decide) | ((with_reducible refine vp_in_nI ?_ ?_) <;> first | omega | decide) | (simp (disch := omega) only [xl_n, xl_m, nI_dec, nI_sb, nI_add, pk_mul]; (with_reducible refine vp_in_nI ?_ ?_) <;> first | omega | decide))); (conv => whnf))
              | (refine And.intro (by first | with_reducible assumption | exact (show cL _ _ = _ from rfl) | decide) ?_; (conv => whnf))
              | ((with_reducible refine @And.intro (_ = _) _ ?_ ?_); (· rfl); (conv => whnf))
              | ((with_reducible refine @And.intro (@LE.le Nat _ _ _) _ ?_ ?_); (· (first | exact Nat.zero_le _ | exact Nat.le_of_ble_eq_true rfl | omega)); (conv => whnf))
              | ((with_reducible refine @And.intro (@LT.lt Nat _ _ _) _ ?_ ?_); (· omega); (conv => whnf))
              | ((with_reducible refine @And.intro (∃ _, _ = _) _ ?_ ?_); (· exact ⟨_, rfl⟩); (conv => whnf))
              | ((with_reducible refine @And.intro (_ ∨ _) _ ?_ ?_); (· (first | exact Or.inl rfl | exact Or.inr rfl | exact t_b01 _ | assumption)); (conv => whnf))
              | ((with_reducible refine @And.intro (¬ (_ = _)) _ ?_ ?_); (· first | assumption | (with_reducible assumption)); (conv => whnf))
              | (refine hX _ _ _ _ _ _ ?_; (conv => whnf); fail_if_success show False)
              | (rw [c_si]; (conv => whnf))
              | (refine ⟨_, rfl, ?_⟩; (conv => whnf))
              | (refine ⟨_, _, rfl, ?_⟩; (conv => whnf))
              | (refine ⟨_, _, _, rfl, ?_⟩; (conv => whnf))
              | (refine ⟨_, _, _, _, rfl, ?_⟩; (conv => whnf))
              | (refine And.intro (fun c => ?_) (fun c => ?_) <;> (first | (exact absurd c (by decide +kernel)) | (conv => whnf)))
              | fail)
            clear hX hG
            simp (disch := omega) only [xl_n, xl_m, nI_dec, nI_sb, xl_0, xl_1, cW_i, Nat.add_zero, Nat.reduceAdd, Nat.reduceMul, t_bn0, t_bn1, Classical.not_not, t_lt, nI_add, nI_1, pk_mul, nI_clamp, c_si, nI_eq, nI_leI, nM_ne, nM_ne, xm_set, xm_lv0, xm_psh] at *
            exact fin
          · have d2 : ¬ N 1 11 ≤ nI h := by
              rw [hnN, nI_leI (by omega) (by omega)]
              omega
            have hhI : h < c_h I := by omega
            have hhN : h < c_h N := by rw [hN.kp.hp.1]; exact hhI
            clear over
            have x151 : ∀ N2, c_sc 7 N N2 → c_ts P Z N2 7 L → cA N2 7 = g_deaths (cK I L) doom (h + 1) T → X 151 [some (.ref 0), some (.int seed), some (.int q), some (.int (nI n)), some (.ref 7), some (.int (nI y)), some (.int doom), some (.int (nI h))] [] (cW P Z N2) 0 0 := fun N2 h2 t2 e2 => by
              have y2 : N2 7 6 = nI (y0 + (y + 1)) := by
                rw [← cA_gy (I := N2) (r := 7), e2, g_deaths_s, ← eN]
                split
                · rw [gy_die, cA_gy, yN]
                · rw [cA_gy, yN]
              have := jh (h + 1) (by omega) (by omega) N2 (hN.tr h2.sp) t2 y2 e2 (by rw [h2 0 (by omega) (by omega) (by omega)]; exact sN)
              clear jh
              refine hG _ _ _ _ _ _ ?_
              (conv => whnf)
              repeat' (first
                | ((with_reducible refine @And.intro (vp_in _ _) _ ?_ ?_); (· (first | with_reducible assumption | ((with_reducible refine t_vin ?_); decide) | ((with_reducible refine vp_in_nI ?_ ?_) <;> first | omega | decide) | (simp (disch := omega) only [xl_n, xl_m, nI_dec, nI_sb, nI_add, pk_mul]; (with_reducible refine vp_in_nI ?_ ?_) <;> first | omega | decide))); (conv => whnf))
                | (refine And.intro (by first | with_reducible assumption | exact (show cL _ _ = _ from rfl) | decide) ?_; (conv => whnf))
                | ((with_reducible refine @And.intro (_ = _) _ ?_ ?_); (· rfl); (conv => whnf))
                | ((with_reducible refine @And.intro (@LE.le Nat _ _ _) _ ?_ ?_); (· (first | exact Nat.zero_le _ | exact Nat.le_of_ble_eq_true rfl | omega)); (conv => whnf))
                | ((with_reducible refine @And.intro (@LT.lt Nat _ _ _) _ ?_ ?_); (· omega); (conv => whnf))
                | ((with_reducible refine @And.intro (∃ _, _ = _) _ ?_ ?_); (· exact ⟨_, rfl⟩); (conv => whnf))
                | ((with_reducible refine @And.intro (_ ∨ _) _ ?_ ?_); (· (first | exact Or.inl rfl | exact Or.inr rfl | exact t_b01 _ | assumption)); (conv => whnf))
                | ((with_reducible refine @And.intro (¬ (_ = _)) _ ?_ ?_); (· first | assumption | (with_reducible assumption)); (conv => whnf))
                | (refine hX _ _ _ _ _ _ ?_; (conv => whnf); fail_if_success show False)
                | (rw [c_si]; (conv => whnf))
                | (refine ⟨_, rfl, ?_⟩; (conv => whnf))
                | (refine ⟨_, _, rfl, ?_⟩; (conv => whnf))
                | (refine ⟨_, _, _, rfl, ?_⟩; (conv => whnf))
                | (refine ⟨_, _, _, _, rfl, ?_⟩; (conv => whnf))
                | (refine And.intro (fun c => ?_) (fun c => ?_) <;> (first | (exact absurd c (by decide +kernel)) | (conv => whnf)))
                | fail)
              clear hX hG
              simp (disch := omega) only [xl_n, xl_m, nI_dec, nI_sb, xl_0, xl_1, cW_i, Nat.add_zero, Nat.reduceAdd, Nat.reduceMul, t_bn0, t_bn1, Classical.not_not, t_lt, nI_add, nI_1, pk_mul, nI_clamp, c_si, nI_eq, nI_leI, nM_ne, nM_ne, xm_set] at *
              exact this
            clear jh
            have ek : (nI h).toNatClampNeg = h := nI_clamp (by omega)
            have e := c_is_ald (L := L) tN.2.2.1 hhN
            rw [eKN] at e
            have ed : gdies (cK I L) h = N 32 h := by rw [cK_dies hhI, hN.kp.f (b := 32) (by omega)]
            rw [g_deaths_s, ← eN, e, ed, cA_gy] at x151
            by_cases a1 : N (10 * 7) h = nI 1
            · have d3 : N (10 * 7) (nI h).toNatClampNeg = Int32.ofInt 1 := by rw [ek, a1, xl_n.2.1]
              rw [decide_eq_true a1, Bool.true_and] at x151
              have x143 : (decide (N 32 h = N 7 6) || t_has doom h) = true → X 143 [some (.ref 0), some (.int seed), some (.int q), some (.int (nI n)), some (.ref 7), some (.int (nI y)), some (.int doom), some (.int (nI h))] [] (cW P Z N) 0 0 := fun z => by
                rw [if_pos z] at x151
                refine hG _ _ _ _ _ _ ?_
                (conv => whnf)
                repeat' (first
                  | ((with_reducible refine @And.intro (vp_in _ _) _ ?_ ?_); (· (first | with_reducible assumption | ((with_reducible refine t_vin ?_); decide) | ((with_reducible refine vp_in_nI ?_ ?_) <;> first | omega | decide) | (simp (disch := omega) only [xl_n, xl_m, nI_dec, nI_sb, nI_add, pk_mul]; (with_reducible refine vp_in_nI ?_ ?_) <;> first | omega | decide))); (conv => whnf))
                  | (refine And.intro (by first | with_reducible assumption | exact (show cL _ _ = _ from rfl) | decide) ?_; (conv => whnf))
                  | ((with_reducible refine @And.intro (_ = _) _ ?_ ?_); (· rfl); (conv => whnf))
                  | ((with_reducible refine @And.intro (@LE.le Nat _ _ _) _ ?_ ?_); (· (first | exact Nat.zero_le _ | exact Nat.le_of_ble_eq_true rfl | omega)); (conv => whnf))
                  | ((with_reducible refine @And.intro (@LT.lt Nat _ _ _) _ ?_ ?_); (· omega); (conv => whnf))
                  | ((with_reducible refine @And.intro (∃ _, _ = _) _ ?_ ?_); (· exact ⟨_, rfl⟩); (conv => whnf))
                  | ((with_reducible refine @And.intro (_ ∨ _) _ ?_ ?_); (· (first | exact Or.inl rfl | exact Or.inr rfl | exact t_b01 _ | assumption)); (conv => whnf))
                  | ((with_reducible refine @And.intro (¬ (_ = _)) _ ?_ ?_); (· first | assumption | (with_reducible assumption)); (conv => whnf))
                  | (refine hX _ _ _ _ _ _ ?_; (conv => whnf); fail_if_success show False)
                  | (rw [c_si]; (conv => whnf))
                  | (refine ⟨_, rfl, ?_⟩; (conv => whnf))
                  | (refine ⟨_, _, rfl, ?_⟩; (conv => whnf))
                  | (refine ⟨_, _, _, rfl, ?_⟩; (conv => whnf))
                  | (refine ⟨_, _, _, _, rfl, ?_⟩; (conv => whnf))
                  | (refine ⟨7,h,L,rfl,tN,hhN,?_⟩; (conv => whnf))
                  | (rw [c_tl h7]; (conv => whnf))
                  | (rw [c_t7 h7]; (conv => whnf))
                  | (rw [c_tf h7 (by decide)]; (conv => whnf))
                  | (rw [c_t0 h7]; (conv => whnf))
                  | (rw [c_t1 h7]; (conv => whnf))
                  | (rw [c_t2 h7]; (conv => whnf))
                  | (rw [c_t3 h7]; (conv => whnf))
                  | (rw [c_t4 h7]; (conv => whnf))
                  | (rw [c_t5 h7]; (conv => whnf))
                  | (refine And.intro ⟨_, c_tl h7⟩ ?_; (conv => whnf))
                  | (refine And.intro (fun c => ?_) (fun c => ?_) <;> (first | (exact absurd c (by decide +kernel)) | (conv => whnf)))
                  | fail)
                intro N2 h2 t2 e2
                rw [eKN] at e2
                have fin := x151 N2 h2 t2 e2
                clear x151
                (conv => whnf)
                repeat' (first
                  | ((with_reducible refine @And.intro (vp_in _ _) _ ?_ ?_); (· (first | with_reducible assumption | ((with_reducible refine t_vin ?_); decide) | ((with_reducible refine vp_in_nI ?_ ?_) <;> first | omega | decide) | (simp (disch := omega) only [xl_n, xl_m, nI_dec, nI_sb, nI_add, pk_mul]; (with_reducible refine vp_in_nI ?_ ?_) <;> first | omega | decide))); (conv => whnf))
                  | (refine And.intro (by first | with_reducible assumption | exact (show cL _ _ = _ from rfl) | decide) ?_; (conv => whnf))
                  | ((with_reducible refine @And.intro (_ = _) _ ?_ ?_); (· rfl); (conv => whnf))
                  | ((with_reducible refine @And.intro (@LE.le Nat _ _ _) _ ?_ ?_); (· (first | exact Nat.zero_le _ | exact Nat.le_of_ble_eq_true rfl | omega)); (conv => whnf))
                  | ((with_reducible refine @And.intro (@LT.lt Nat _ _ _) _ ?_ ?_); (· omega); (conv => whnf))
                  | ((with_reducible refine @And.intro (∃ _, _ = _) _ ?_ ?_); (· exact ⟨_, rfl⟩); (conv => whnf))
                  | ((with_reducible refine @And.intro (_ ∨ _) _ ?_ ?_); (· (first | exact Or.inl rfl | exact Or.inr rfl | exact t_b01 _ | assumption)); (conv => whnf))
                  | ((with_reducible refine @And.intro (¬ (_ = _)) _ ?_ ?_); (· first | assumption | (with_reducible assumption)); (conv => whnf))
                  | (refine hX _ _ _ _ _ _ ?_; (conv => whnf); fail_if_success show False)
                  | (rw [c_si]; (conv => whnf))
                  | (refine ⟨_, rfl, ?_⟩; (conv => whnf))
                  | (refine ⟨_, _, rfl, ?_⟩; (conv => whnf))
                  | (refine ⟨_, _, _, rfl, ?_⟩; (conv => whnf))
                  | (refine ⟨_, _, _, _, rfl, ?_⟩; (conv => whnf))
                  | (refine And.intro (fun c => ?_) (fun c => ?_) <;> (first | (exact absurd c (by decide +kernel)) | (conv => whnf)))
                  | fail)
                exact fin
              cases a2 : t_has doom h with
              | true =>
                have x143 := x143 (by rw [a2, Bool.or_true])
                have d4 : (doom >>> (nI h &&& 31)) &&& Int32.ofInt 1 = Int32.ofInt 1 := of_decide_eq_true a2
                clear x151
                refine hG _ _ _ _ _ _ ?_
                (conv => whnf)
                repeat' (first
                  | ((with_reducible refine @And.intro (vp_in _ _) _ ?_ ?_); (· (first | with_reducible assumption | ((with_reducible refine t_vin ?_); decide) | ((with_reducible refine vp_in_nI ?_ ?_) <;> first | omega | decide) | (simp (disch := omega) only [xl_n, xl_m, nI_dec, nI_sb, nI_add, pk_mul]; (with_reducible refine vp_in_nI ?_ ?_) <;> first | omega | decide))); (conv => whnf))
                  | (refine And.intro (by first | with_reducible assumption | exact (show cL _ _ = _ from rfl) | decide) ?_; (conv => whnf))
                  | ((with_reducible refine @And.intro (_ = _) _ ?_ ?_); (· rfl); (conv => whnf))
                  | ((with_reducible refine @And.intro (@LE.le Nat _ _ _) _ ?_ ?_); (· (first | exact Nat.zero_le _ | exact Nat.le_of_ble_eq_true rfl | omega)); (conv => whnf))
                  | ((with_reducible refine @And.intro (@LT.lt Nat _ _ _) _ ?_ ?_); (· omega); (conv => whnf))
                  | ((with_reducible refine @And.intro (∃ _, _ = _) _ ?_ ?_); (· exact ⟨_, rfl⟩); (conv => whnf))
                  | ((with_reducible refine @And.intro (_ ∨ _) _ ?_ ?_); (· (first | exact Or.inl rfl | exact Or.inr rfl | exact t_b01 _ | assumption)); (conv => whnf))
                  | ((with_reducible refine @And.intro (¬ (_ = _)) _ ?_ ?_); (· first | assumption | (with_reducible assumption)); (conv => whnf))
                  | (refine hX _ _ _ _ _ _ ?_; (conv => whnf); fail_if_success show False)
                  | (rw [c_si]; (conv => whnf))
                  | (refine ⟨_, rfl, ?_⟩; (conv => whnf))
                  | (refine ⟨_, _, rfl, ?_⟩; (conv => whnf))
                  | (refine ⟨_, _, _, rfl, ?_⟩; (conv => whnf))
                  | (refine ⟨_, _, _, _, rfl, ?_⟩; (conv => whnf))
                  | (rw [c_tl h7]; (conv => whnf))
                  | (rw [c_t7 h7]; (conv => whnf))
                  | (rw [c_tf h7 (by decide)]; (conv => whnf))
                  | (rw [c_t0 h7]; (conv => whnf))
                  | (rw [c_t1 h7]; (conv => whnf))
                  | (rw [c_t2 h7]; (conv => whnf))
                  | (rw [c_t3 h7]; (conv => whnf))
                  | (rw [c_t4 h7]; (conv => whnf))
                  | (rw [c_t5 h7]; (conv => whnf))
                  | (refine And.intro ⟨_, c_tl h7⟩ ?_; (conv => whnf))
                  | (refine And.intro (fun c => ?_) (fun c => ?_) <;> (first | (exact absurd c (by decide +kernel)) | (exact absurd c (by assumption)) | (exact False.elim (c (by assumption))) | (conv => whnf)))
                  | fail)
                exact x143
              | false =>
                have d4 : ¬ (doom >>> (nI h &&& 31)) &&& Int32.ofInt 1 = Int32.ofInt 1 := of_decide_eq_false a2
                rw [a2, Bool.or_false] at x143 x151
                by_cases a3 : N 32 h = N 7 6
                · have d5 : N 32 (nI h).toNatClampNeg = N 7 6 := by rw [ek]; exact a3
                  have x143 := x143 (decide_eq_true a3)
                  clear x151
                  refine hG _ _ _ _ _ _ ?_
                  (conv => whnf)
                  repeat' (first
                    | ((with_reducible refine @And.intro (vp_in _ _) _ ?_ ?_); (· (first | with_reducible assumption | ((with_reducible refine t_vin ?_); decide) | ((with_reducible refine vp_in_nI ?_ ?_) <;> first | omega | decide) | (simp (disch := omega) only [xl_n, xl_m, nI_dec, nI_sb, nI_add, pk_mul]; (with_reducible refine vp_in_nI ?_ ?_) <;> first | omega | decide))); (conv => whnf))
                    | (refine And.intro (by first | with_reducible assumption | exact (show cL _ _ = _ from rfl) | decide) ?_; (conv => whnf))
                    | ((with_reducible refine @And.intro (_ = _) _ ?_ ?_); (· rfl); (conv => whnf))
                    | ((with_reducible refine @And.intro (@LE.le Nat _ _ _) _ ?_ ?_); (· (first | exact Nat.zero_le _ | exact Nat.le_of_ble_eq_true rfl | omega)); (conv => whnf))
                    | ((with_reducible refine @And.intro (@LT.lt Nat _ _ _) _ ?_ ?_); (· omega); (conv => whnf))
                    | ((with_reducible refine @And.intro (∃ _, _ = _) _ ?_ ?_); (· exact ⟨_, rfl⟩); (conv => whnf))
                    | ((with_reducible refine @And.intro (_ ∨ _) _ ?_ ?_); (· (first | exact Or.inl rfl | exact Or.inr rfl | exact t_b01 _ | assumption)); (conv => whnf))
                    | ((with_reducible refine @And.intro (¬ (_ = _)) _ ?_ ?_); (· first | assumption | (with_reducible assumption)); (conv => whnf))
                    | (refine hX _ _ _ _ _ _ ?_; (conv => whnf); fail_if_success show False)
                    | (rw [c_si]; (conv => whnf))
                    | (refine ⟨_, rfl, ?_⟩; (conv => whnf))
                    | (refine ⟨_, _, rfl, ?_⟩; (conv => whnf))
                    | (refine ⟨_, _, _, rfl, ?_⟩; (conv => whnf))
                    | (refine ⟨_, _, _, _, rfl, ?_⟩; (conv => whnf))
                    | (rw [c_tl h7]; (conv => whnf))
                    | (rw [c_t7 h7]; (conv => whnf))
                    | (rw [c_tf h7 (by decide)]; (conv => whnf))
                    | (rw [c_t0 h7]; (conv => whnf))
                    | (rw [c_t1 h7]; (conv => whnf))
                    | (rw [c_t2 h7]; (conv => whnf))
                    | (rw [c_t3 h7]; (conv => whnf))
                    | (rw [c_t4 h7]; (conv => whnf))
                    | (rw [c_t5 h7]; (conv => whnf))
                    | (refine And.intro ⟨_, c_tl h7⟩ ?_; (conv => whnf))
                    | (refine And.intro (fun c => ?_) (fun c => ?_) <;> (first | (exact absurd c (by decide +kernel)) | (exact absurd c (by assumption)) | (exact False.elim (c (by assumption))) | (conv => whnf)))
                    | fail)
                  exact x143
                · have d5 : ¬ N 32 (nI h).toNatClampNeg = N 7 6 := by rw [ek]; exact a3
                  rw [if_neg (by rw [decide_eq_false a3]; decide)] at x151
                  have x151 := x151 N (fun _ _ _ _ => rfl) tN rfl
                  clear x143
                  refine hG _ _ _ _ _ _ ?_
                  (conv => whnf)
                  repeat' (first
                    | ((with_reducible refine @And.intro (vp_in _ _) _ ?_ ?_); (· (first | with_reducible assumption | ((with_reducible refine t_vin ?_); decide) | ((with_reducible refine vp_in_nI ?_ ?_) <;> first | omega | decide) | (simp (disch := omega) only [xl_n, xl_m, nI_dec, nI_sb, nI_add, pk_mul]; (with_reducible refine vp_in_nI ?_ ?_) <;> first | omega | decide))); (conv => whnf))
                    | (refine And.intro (by first | with_reducible assumption | exact (show cL _ _ = _ from rfl) | decide) ?_; (conv => whnf))
                    | ((with_reducible refine @And.intro (_ = _) _ ?_ ?_); (· rfl); (conv => whnf))
                    | ((with_reducible refine @And.intro (@LE.le Nat _ _ _) _ ?_ ?_); (· (first | exact Nat.zero_le _ | exact Nat.le_of_ble_eq_true rfl | omega)); (conv => whnf))
                    | ((with_reducible refine @And.intro (@LT.lt Nat _ _ _) _ ?_ ?_); (· omega); (conv => whnf))
                    | ((with_reducible refine @And.intro (∃ _, _ = _) _ ?_ ?_); (· exact ⟨_, rfl⟩); (conv => whnf))
                    | ((with_reducible refine @And.intro (_ ∨ _) _ ?_ ?_); (· (first | exact Or.inl rfl | exact Or.inr rfl | exact t_b01 _ | assumption)); (conv => whnf))
                    | ((with_reducible refine @And.intro (¬ (_ = _)) _ ?_ ?_); (· first | assumption | (with_reducible assumption)); (conv => whnf))
                    | (refine hX _ _ _ _ _ _ ?_; (conv => whnf); fail_if_success show False)
                    | (rw [c_si]; (conv => whnf))
                    | (refine ⟨_, rfl, ?_⟩; (conv => whnf))
                    | (refine ⟨_, _, rfl, ?_⟩; (conv => whnf))
                    | (refine ⟨_, _, _, rfl, ?_⟩; (conv => whnf))
                    | (refine ⟨_, _, _, _, rfl, ?_⟩; (conv => whnf))
                    | (rw [c_tl h7]; (conv => whnf))
                    | (rw [c_t7 h7]; (conv => whnf))
                    | (rw [c_tf h7 (by decide)]; (conv => whnf))
                    | (rw [c_t0 h7]; (conv => whnf))
                    | (rw [c_t1 h7]; (conv => whnf))
                    | (rw [c_t2 h7]; (conv => whnf))
                    | (rw [c_t3 h7]; (conv => whnf))
                    | (rw [c_t4 h7]; (conv => whnf))
                    | (rw [c_t5 h7]; (conv => whnf))
                    | (refine And.intro ⟨_, c_tl h7⟩ ?_; (conv => whnf))
                    | (refine And.intro (fun c => ?_) (fun c => ?_) <;> (first | (exact absurd c (by decide +kernel)) | (exact absurd c (by assumption)) | (exact False.elim (c (by assumption))) | (conv => whnf)))
                    | fail)
                  exact x151
            · have d3 : ¬ N (10 * 7) (nI h).toNatClampNeg = Int32.ofInt 1 := by rw [ek, xl_n.2.1]; exact a1
              rw [decide_eq_false a1, Bool.false_and, if_neg (by decide)] at x151
              have x151 := x151 N (fun _ _ _ _ => rfl) tN rfl
              refine hG _ _ _ _ _ _ ?_
              (conv => whnf)
              repeat' (first
                | ((with_reducible refine @And.intro (vp_in _ _) _ ?_ ?_); (· (first | with_reducible assumption | ((with_reducible refine t_vin ?_); decide) | ((with_reducible refine vp_in_nI ?_ ?_) <;> first | omega | decide) | (simp (disch := omega) only [xl_n, xl_m, nI_dec, nI_sb, nI_add, pk_mul]; (with_reducible refine vp_in_nI ?_ ?_) <;> first | omega | decide))); (conv => whnf))
                | (refine And.intro (by first | with_reducible assumption | exact (show cL _ _ = _ from rfl) | decide) ?_; (conv => whnf))
                | ((with_reducible refine @And.intro (_ = _) _ ?_ ?_); (· rfl); (conv => whnf))
                | ((with_reducible refine @And.intro (@LE.le Nat _ _ _) _ ?_ ?_); (· (first | exact Nat.zero_le _ | exact Nat.le_of_ble_eq_true rfl | omega)); (conv => whnf))
                | ((with_reducible refine @And.intro (@LT.lt Nat _ _ _) _ ?_ ?_); (· omega); (conv => whnf))
                | ((with_reducible refine @And.intro (∃ _, _ = _) _ ?_ ?_); (· exact ⟨_, rfl⟩); (conv => whnf))
                | ((with_reducible refine @And.intro (_ ∨ _) _ ?_ ?_); (· (first | exact Or.inl rfl | exact Or.inr rfl | exact t_b01 _ | assumption)); (conv => whnf))
                | ((with_reducible refine @And.intro (¬ (_ = _)) _ ?_ ?_); (· first | assumption | (with_reducible assumption)); (conv => whnf))
                | (refine hX _ _ _ _ _ _ ?_; (conv => whnf); fail_if_success show False)
                | (rw [c_si]; (conv => whnf))
                | (refine ⟨_, rfl, ?_⟩; (conv => whnf))
                | (refine ⟨_, _, rfl, ?_⟩; (conv => whnf))
                | (refine ⟨_, _, _, rfl, ?_⟩; (conv => whnf))
                | (refine ⟨_, _, _, _, rfl, ?_⟩; (conv => whnf))
                | (rw [c_tl h7]; (conv => whnf))
                | (rw [c_t7 h7]; (conv => whnf))
                | (rw [c_tf h7 (by decide)]; (conv => whnf))
                | (rw [c_t0 h7]; (conv => whnf))
                | (rw [c_t1 h7]; (conv => whnf))
                | (rw [c_t2 h7]; (conv => whnf))
                | (rw [c_t3 h7]; (conv => whnf))
                | (rw [c_t4 h7]; (conv => whnf))
                | (rw [c_t5 h7]; (conv => whnf))
                | (refine And.intro ⟨_, c_tl h7⟩ ?_; (conv => whnf))
                | (refine And.intro (fun c => ?_) (fun c => ?_) <;> (first | (exact absurd c (by decide +kernel)) | (exact absurd c (by assumption)) | (exact False.elim (c (by assumption))) | (conv => whnf)))
                | fail)
              exact x151
        clear over
        -- lots
        have l38 : ∀ h, h ≤ c_h I → ∀ N, c_sp I N → c_ts P Z N 7 L → N 7 6 = nI (y0 + (y + 1)) → cA N 7 = T → N 0 12 = (g_lots (cK I L) T q h (M 0 12)).1 → X 38 [some (.ref 0), some (.int seed), some (.int q), some (.int (nI n)), some (.ref 7), some (.int (nI y)), some (.int (g_lots (cK I L) T q h (M 0 12)).2), some (.int (nI h))] [] (cW P Z N) 0 0 := by
          refine t_for fun h h1 jh N hN tN yN eN sN => ?_
          have eKN := hN.kp.K (L := L) hok hg.2.2.2.2.1
          have hnN : N 1 11 = nI (c_h I) := by rw [hN.kp.f (b := 1) (by omega)]; exact hn
          by_cases hh : h = c_h I
          · subst hh
            have d2 : N 1 11 ≤ nI (c_h I) := by rw [hnN]; exact Int32.le_refl _
            have fin := l90 0 (Nat.zero_le _) N hN tN yN eN sN
            rw [← hdoom]
            clear jh l90
            refine hG _ _ _ _ _ _ ?_
            (conv => whnf)
            repeat' (first
              | ((with_reducible refine @And.intro (vp_in _ _) _ ?_ ?_); (· (first | with_reducible assumption | ((with_reducible refine t_vin ?_); decide) | ((with_reducible refine vp_in_nI ?_ ?_) <;> first | omega | decide) | (simp (disch := omega) only [xl_n, xl_m, nI_dec, nI_sb, nI_add, pk_mul]; (with_reducible refine vp_in_nI ?_ ?_) <;> first | omega | decide))); (conv => whnf))
              | (refine And.intro (by first | with_reducible assumption | exact (show cL _ _ = _ from rfl) | decide) ?_; (conv => whnf))
              | ((with_reducible refine @And.intro (_ = _) _ ?_ ?_); (· rfl); (conv => whnf))
              | ((with_reducible refine @And.intro (@LE.le Nat _ _ _) _ ?_ ?_); (· (first | exact Nat.zero_le _ | exact Nat.le_of_ble_eq_true rfl | omega)); (conv => whnf))
              | ((with_reducible refine @And.intro (@LT.lt Nat _ _ _) _ ?_ ?_); (· omega); (conv => whnf))
              | ((with_reducible refine @And.intro (∃ _, _ = _) _ ?_ ?_); (· exact ⟨_, rfl⟩); (conv => whnf))
              | ((with_reducible refine @And.intro (_ ∨ _) _ ?_ ?_); (· (first | exact Or.inl rfl | exact Or.inr rfl | exact t_b01 _ | assumption)); (conv => whnf))
              | ((with_reducible refine @And.intro (¬ (_ = _)) _ ?_ ?_); (· first | assumption | (with_reducible assumption)); (conv => whnf))
              | (refine hX _ _ _ _ _ _ ?_; (conv => whnf); fail_if_success show False)
              | (rw [c_si]; (conv => whnf))
              | (refine ⟨_, rfl, ?_⟩; (conv => whnf))
              | (refine ⟨_, _, rfl, ?_⟩; (conv => whnf))
              | (refine ⟨_, _, _, rfl, ?_⟩; (conv => whnf))
              | (refine ⟨_, _, _, _, rfl, ?_⟩; (conv => whnf))
              | (refine And.intro (fun c => ?_) (fun c => ?_) <;> (first | (exact absurd c (by decide +kernel)) | (exact absurd c (by assumption)) | (exact False.elim (c (by assumption))) | (conv => whnf)))
              | fail)
            exact fin
          · have d2 : ¬ N 1 11 ≤ nI h := by
              rw [hnN, nI_leI (by omega) (by omega)]
              omega
            have hhI : h < c_h I := by omega
            have hhN : h < c_h N := by rw [hN.kp.hp.1]; exact hhI
            clear l90
            have x81 : ∀ N2 d, c_sp I N2 → c_ts P Z N2 7 L → N2 7 6 = nI (y0 + (y + 1)) → cA N2 7 = T → (g_lots (cK I L) T q (h + 1) (M 0 12)) = (N2 0 12, d) → X 81 [some (.ref 0), some (.int seed), some (.int q), some (.int (nI n)), some (.ref 7), some (.int (nI y)), some (.int d), some (.int (nI h))] [] (cW P Z N2) 0 0 := fun N2 d h2 t2 y2 e2 s2 => by
              have := jh (h + 1) (by omega) (by omega) N2 h2 t2 y2 e2 (by rw [s2])
              rw [s2] at this
              clear jh
              refine hG _ _ _ _ _ _ ?_
              (conv => whnf)
              repeat' (first
                | ((with_reducible refine @And.intro (vp_in _ _) _ ?_ ?_); (· (first | with_reducible assumption | ((with_reducible refine t_vin ?_); decide) | ((with_reducible refine vp_in_nI ?_ ?_) <;> first | omega | decide) | (simp (disch := omega) only [xl_n, xl_m, nI_dec, nI_sb, nI_add, pk_mul]; (with_reducible refine vp_in_nI ?_ ?_) <;> first | omega | decide))); (conv => whnf))
                | (refine And.intro (by first | with_reducible assumption | exact (show cL _ _ = _ from rfl) | decide) ?_; (conv => whnf))
                | ((with_reducible refine @And.intro (_ = _) _ ?_ ?_); (· rfl); (conv => whnf))
                | ((with_reducible refine @And.intro (@LE.le Nat _ _ _) _ ?_ ?_); (· (first | exact Nat.zero_le _ | exact Nat.le_of_ble_eq_true rfl | omega)); (conv => whnf))
                | ((with_reducible refine @And.intro (@LT.lt Nat _ _ _) _ ?_ ?_); (· omega); (conv => whnf))
                | ((with_reducible refine @And.intro (∃ _, _ = _) _ ?_ ?_); (· exact ⟨_, rfl⟩); (conv => whnf))
                | ((with_reducible refine @And.intro (_ ∨ _) _ ?_ ?_); (· (first | exact Or.inl rfl | exact Or.inr rfl | exact t_b01 _ | assumption)); (conv => whnf))
                | ((with_reducible refine @And.intro (¬ (_ = _)) _ ?_ ?_); (· first | assumption | (with_reducible assumption)); (conv => whnf))
                | (refine hX _ _ _ _ _ _ ?_; (conv => whnf); fail_if_success show False)
                | (rw [c_si]; (conv => whnf))
                | (refine ⟨_, rfl, ?_⟩; (conv => whnf))
                | (refine ⟨_, _, rfl, ?_⟩; (conv => whnf))
                | (refine ⟨_, _, _, rfl, ?_⟩; (conv => whnf))
                | (refine ⟨_, _, _, _, rfl, ?_⟩; (conv => whnf))
                | (refine And.intro (fun c => ?_) (fun c => ?_) <;> (first | (exact absurd c (by decide +kernel)) | (conv => whnf)))
                | fail)
              clear hX hG
              simp (disch := omega) only [xl_n, xl_m, nI_dec, nI_sb, xl_0, xl_1, cW_i, Nat.add_zero, Nat.reduceAdd, Nat.reduceMul, t_bn0, t_bn1, Classical.not_not, t_lt, nI_add, nI_1, pk_mul, nI_clamp, c_si, nI_eq, nI_leI, nM_ne, nM_ne, xm_set] at *
              exact this
            clear jh
            have ek : (nI h).toNatClampNeg = h := nI_clamp (by omega)
            have e := c_is_ald (L := L) tN.2.2.1 hhN
            rw [eKN, eN] at e
            rw [g_lots_s', e] at x81
            by_cases a1 : N (10 * 7) h = nI 1
            · have d3 : N (10 * 7) (nI h).toNatClampNeg = Int32.ofInt 1 := by rw [ek, a1, xl_n.2.1]
              rw [decide_eq_true a1, if_pos rfl, ← sN] at x81
              obtain ⟨t2, e2⟩ := c_ts_12 (v := g_lot (N 0 12)) tN
              have s12 : xm_u2 N 0 12 (g_lot (N 0 12)) 0 12 = g_lot (N 0 12) := by rw [xm_u2_at, if_pos rfl]
              have x81 := fun d z => x81 (xm_u2 N 0 12 (g_lot (N 0 12))) d (hN.tr c_sp_12) t2 (by rw [xm_u2_ne (by decide)]; exact yN) (e2.trans eN) (by rw [s12]; exact z)
              have x81 := fun d z => x81 d (Prod.ext rfl z)
              by_cases a2 : q ≤ g_lt15 (g_lot (N 0 12))
              · have x81 := x81 (g_lots (cK I L) T q h (M 0 12)).2 (by
                  show _ ||| (if q ≤ g_lt15 (g_lot (N 0 12)) then nI 0 else t_bit h) = _
                  rw [if_pos a2]
                  exact Int32.or_zero)
                refine hG _ _ _ _ _ _ ?_
                (conv => whnf)
                repeat' (first
                  | ((with_reducible refine @And.intro (vp_in _ _) _ ?_ ?_); (· (first | with_reducible assumption | ((with_reducible refine t_vin ?_); decide) | ((with_reducible refine vp_in_nI ?_ ?_) <;> first | omega | decide) | (simp (disch := omega) only [xl_n, xl_m, nI_dec, nI_sb, nI_add, pk_mul]; (with_reducible refine vp_in_nI ?_ ?_) <;> first | omega | decide))); (conv => whnf))
                  | (refine And.intro (by first | with_reducible assumption | exact (show cL _ _ = _ from rfl) | decide) ?_; (conv => whnf))
                  | ((with_reducible refine @And.intro (_ = _) _ ?_ ?_); (· rfl); (conv => whnf))
                  | ((with_reducible refine @And.intro (@LE.le Nat _ _ _) _ ?_ ?_); (· (first | exact Nat.zero_le _ | exact Nat.le_of_ble_eq_true rfl | omega)); (conv => whnf))
                  | ((with_reducible refine @And.intro (@LT.lt Nat _ _ _) _ ?_ ?_); (· omega); (conv => whnf))
                  | ((with_reducible refine @And.intro (∃ _, _ = _) _ ?_ ?_); (· exact ⟨_, rfl⟩); (conv => whnf))
                  | ((with_reducible refine @And.intro (_ ∨ _) _ ?_ ?_); (· (first | exact Or.inl rfl | exact Or.inr rfl | exact t_b01 _ | assumption)); (conv => whnf))
                  | ((with_reducible refine @And.intro (¬ (_ = _)) _ ?_ ?_); (· first | assumption | (with_reducible assumption)); (conv => whnf))
                  | (refine hX _ _ _ _ _ _ ?_; (conv => whnf); fail_if_success show False)
                  | (rw [c_si]; (conv => whnf))
                  | (refine ⟨_, rfl, ?_⟩; (conv => whnf))
                  | (refine ⟨_, _, rfl, ?_⟩; (conv => whnf))
                  | (refine ⟨_, _, _, rfl, ?_⟩; (conv => whnf))
                  | (refine ⟨_, _, _, _, rfl, ?_⟩; (conv => whnf))
                  | (rw [c_tl h7]; (conv => whnf))
                  | (rw [c_t7 h7]; (conv => whnf))
                  | (rw [c_tf h7 (by decide)]; (conv => whnf))
                  | (rw [c_t0 h7]; (conv => whnf))
                  | (rw [c_t1 h7]; (conv => whnf))
                  | (rw [c_t2 h7]; (conv => whnf))
                  | (rw [c_t3 h7]; (conv => whnf))
                  | (rw [c_t4 h7]; (conv => whnf))
                  | (rw [c_t5 h7]; (conv => whnf))
                  | (refine And.intro ⟨_, c_tl h7⟩ ?_; (conv => whnf))
                  | (refine And.intro (fun c => ?_) (fun c => ?_) <;> (first | (exact absurd c (by decide +kernel)) | (exact absurd c (by assumption)) | (exact False.elim (c (by assumption))) | (conv => whnf)))
                  | fail)
                exact x81
              · have x81 := x81 _ (by
                  show _ ||| (if q ≤ g_lt15 (g_lot (N 0 12)) then nI 0 else t_bit h) = _
                  rw [if_neg a2])
                refine hG _ _ _ _ _ _ ?_
                (conv => whnf)
                repeat' (first
                  | ((with_reducible refine @And.intro (vp_in _ _) _ ?_ ?_); (· (first | with_reducible assumption | ((with_reducible refine t_vin ?_); decide) | ((with_reducible refine vp_in_nI ?_ ?_) <;> first | omega | decide) | (simp (disch := omega) only [xl_n, xl_m, nI_dec, nI_sb, nI_add, pk_mul]; (with_reducible refine vp_in_nI ?_ ?_) <;> first | omega | decide))); (conv => whnf))
                  | (refine And.intro (by first | with_reducible assumption | exact (show cL _ _ = _ from rfl) | decide) ?_; (conv => whnf))
                  | ((with_reducible refine @And.intro (_ = _) _ ?_ ?_); (· rfl); (conv => whnf))
                  | ((with_reducible refine @And.intro (@LE.le Nat _ _ _) _ ?_ ?_); (· (first | exact Nat.zero_le _ | exact Nat.le_of_ble_eq_true rfl | omega)); (conv => whnf))
                  | ((with_reducible refine @And.intro (@LT.lt Nat _ _ _) _ ?_ ?_); (· omega); (conv => whnf))
                  | ((with_reducible refine @And.intro (∃ _, _ = _) _ ?_ ?_); (· exact ⟨_, rfl⟩); (conv => whnf))
                  | ((with_reducible refine @And.intro (_ ∨ _) _ ?_ ?_); (· (first | exact Or.inl rfl | exact Or.inr rfl | exact t_b01 _ | assumption)); (conv => whnf))
                  | ((with_reducible refine @And.intro (¬ (_ = _)) _ ?_ ?_); (· first | assumption | (with_reducible assumption)); (conv => whnf))
                  | (refine hX _ _ _ _ _ _ ?_; (conv => whnf); fail_if_success show False)
                  | (rw [c_si]; (conv => whnf))
                  | (refine ⟨_, rfl, ?_⟩; (conv => whnf))
                  | (refine ⟨_, _, rfl, ?_⟩; (conv => whnf))
                  | (refine ⟨_, _, _, rfl, ?_⟩; (conv => whnf))
                  | (refine ⟨_, _, _, _, rfl, ?_⟩; (conv => whnf))
                  | (rw [c_tl h7]; (conv => whnf))
                  | (rw [c_t7 h7]; (conv => whnf))
                  | (rw [c_tf h7 (by decide)]; (conv => whnf))
                  | (rw [c_t0 h7]; (conv => whnf))
                  | (rw [c_t1 h7]; (conv => whnf))
                  | (rw [c_t2 h7]; (conv => whnf))
                  | (rw [c_t3 h7]; (conv => whnf))
                  | (rw [c_t4 h7]; (conv => whnf))
                  | (rw [c_t5 h7]; (conv => whnf))
                  | (refine And.intro ⟨_, c_tl h7⟩ ?_; (conv => whnf))
                  | (refine And.intro (fun c => ?_) (fun c => ?_) <;> (first | (exact absurd c (by decide +kernel)) | (exact absurd c (by assumption)) | (exact False.elim (c (by assumption))) | (conv => whnf)))
                  | fail)
                exact x81
            · have d3 : ¬ N (10 * 7) (nI h).toNatClampNeg = Int32.ofInt 1 := by rw [ek, xl_n.2.1]; exact a1
              rw [decide_eq_false a1, if_neg (by decide)] at x81
              have x81 := x81 N _ hN tN yN eN (by rw [sN])
              refine hG _ _ _ _ _ _ ?_
              (conv => whnf)
              repeat' (first
                | ((with_reducible refine @And.intro (vp_in _ _) _ ?_ ?_); (· (first | with_reducible assumption | ((with_reducible refine t_vin ?_); decide) | ((with_reducible refine vp_in_nI ?_ ?_) <;> first | omega | decide) | (simp (disch := omega) only [xl_n, xl_m, nI_dec, nI_sb, nI_add, pk_mul]; (with_reducible refine vp_in_nI ?_ ?_) <;> first | omega | decide))); (conv => whnf))
                | (refine And.intro (by first | with_reducible assumption | exact (show cL _ _ = _ from rfl) | decide) ?_; (conv => whnf))
                | ((with_reducible refine @And.intro (_ = _) _ ?_ ?_); (· rfl); (conv => whnf))
                | ((with_reducible refine @And.intro (@LE.le Nat _ _ _) _ ?_ ?_); (· (first | exact Nat.zero_le _ | exact Nat.le_of_ble_eq_true rfl | omega)); (conv => whnf))
                | ((with_reducible refine @And.intro (@LT.lt Nat _ _ _) _ ?_ ?_); (· omega); (conv => whnf))
                | ((with_reducible refine @And.intro (∃ _, _ = _) _ ?_ ?_); (· exact ⟨_, rfl⟩); (conv => whnf))
                | ((with_reducible refine @And.intro (_ ∨ _) _ ?_ ?_); (· (first | exact Or.inl rfl | exact Or.inr rfl | exact t_b01 _ | assumption)); (conv => whnf))
                | ((with_reducible refine @And.intro (¬ (_ = _)) _ ?_ ?_); (· first | assumption | (with_reducible assumption)); (conv => whnf))
                | (refine hX _ _ _ _ _ _ ?_; (conv => whnf); fail_if_success show False)
                | (rw [c_si]; (conv => whnf))
                | (refine ⟨_, rfl, ?_⟩; (conv => whnf))
                | (refine ⟨_, _, rfl, ?_⟩; (conv => whnf))
                | (refine ⟨_, _, _, rfl, ?_⟩; (conv => whnf))
                | (refine ⟨_, _, _, _, rfl, ?_⟩; (conv => whnf))
                | (rw [c_tl h7]; (conv => whnf))
                | (rw [c_t7 h7]; (conv => whnf))
                | (rw [c_tf h7 (by decide)]; (conv => whnf))
                | (rw [c_t0 h7]; (conv => whnf))
                | (rw [c_t1 h7]; (conv => whnf))
                | (rw [c_t2 h7]; (conv => whnf))
                | (rw [c_t3 h7]; (conv => whnf))
                | (rw [c_t4 h7]; (conv => whnf))
                | (rw [c_t5 h7]; (conv => whnf))
                | (refine And.intro ⟨_, c_tl h7⟩ ?_; (conv => whnf))
                | (refine And.intro (fun c => ?_) (fun c => ?_) <;> (first | (exact absurd c (by decide +kernel)) | (exact absurd c (by assumption)) | (exact False.elim (c (by assumption))) | (conv => whnf)))
                | fail)
              exact x81
        have fin := l38 0 (Nat.zero_le _) M sM tM yM hT.symm rfl
        exact fin
      clear ih
      rcases ho with rfl | ⟨z, rfl⟩
      all_goals rcases ho' with rfl | ⟨z', rfl⟩
      all_goals
        refine hG _ _ _ _ _ _ ?_
        (conv => whnf)
        repeat' (first
          | ((with_reducible refine @And.intro (vp_in _ _) _ ?_ ?_); (· (first | with_reducible assumption | ((with_reducible refine t_vin ?_); decide) | ((with_reducible refine vp_in_nI ?_ ?_) <;> first | omega | decide) | (simp (disch := omega) only [xl_n, xl_m, nI_dec, nI_sb, nI_add, pk_mul]; (with_reducible refine vp_in_nI ?_ ?_) <;> first | omega | decide))); (conv => whnf))
          | (refine And.intro (by first | with_reducible assumption | exact (show cL _ _ = _ from rfl) | decide) ?_; (conv => whnf))
          | ((with_reducible refine @And.intro (_ = _) _ ?_ ?_); (· rfl); (conv => whnf))
          | ((with_reducible refine @And.intro (@LE.le Nat _ _ _) _ ?_ ?_); (· (first | exact Nat.zero_le _ | exact Nat.le_of_ble_eq_true rfl | omega)); (conv => whnf))
          | ((with_reducible refine @And.intro (@LT.lt Nat _ _ _) _ ?_ ?_); (· omega); (conv => whnf))
          | ((with_reducible refine @And.intro (∃ _, _ = _) _ ?_ ?_); (· exact ⟨_, rfl⟩); (conv => whnf))
          | ((with_reducible refine @And.intro (_ ∨ _) _ ?_ ?_); (· (first | exact Or.inl rfl | exact Or.inr rfl | exact t_b01 _ | assumption)); (conv => whnf))
          | ((with_reducible refine @And.intro (¬ (_ = _)) _ ?_ ?_); (· first | assumption | (with_reducible assumption)); (conv => whnf))
          | (refine hX _ _ _ _ _ _ ?_; (conv => whnf); fail_if_success show False)
          | (rw [c_si]; (conv => whnf))
          | (refine ⟨_, rfl, ?_⟩; (conv => whnf))
          | (refine ⟨_, _, rfl, ?_⟩; (conv => whnf))
          | (refine ⟨_, _, _, rfl, ?_⟩; (conv => whnf))
          | (refine ⟨_, _, _, _, rfl, ?_⟩; (conv => whnf))
          | (refine ⟨7,L,y0+y,rfl,tJ,yJ,hy1,?_⟩; (conv => whnf))
          | (rw [c_tl h7]; (conv => whnf))
          | (rw [c_t7 h7]; (conv => whnf))
          | (rw [c_tf h7 (by decide)]; (conv => whnf))
          | (rw [c_t0 h7]; (conv => whnf))
          | (rw [c_t1 h7]; (conv => whnf))
          | (rw [c_t2 h7]; (conv => whnf))
          | (rw [c_t3 h7]; (conv => whnf))
          | (rw [c_t4 h7]; (conv => whnf))
          | (rw [c_t5 h7]; (conv => whnf))
          | (refine And.intro ⟨_, c_tl h7⟩ ?_; (conv => whnf))
          | (refine And.intro (fun c => ?_) (fun c => ?_) <;> (first | (exact absurd c (by decide +kernel)) | (exact absurd c (by assumption)) | (exact False.elim (c (by assumption))) | (conv => whnf)))
          | fail)
        intro M hM tM eM
        have fin := after M hM tM eM
        clear after
        (conv => whnf)
        repeat' (first
          | ((with_reducible refine @And.intro (vp_in _ _) _ ?_ ?_); (· (first | with_reducible assumption | ((with_reducible refine t_vin ?_); decide) | ((with_reducible refine vp_in_nI ?_ ?_) <;> first | omega | decide) | (simp (disch := omega) only [xl_n, xl_m, nI_dec, nI_sb, nI_add, pk_mul]; (with_reducible refine vp_in_nI ?_ ?_) <;> first | omega | decide))); (conv => whnf))
          | (refine And.intro (by first | with_reducible assumption | exact (show cL _ _ = _ from rfl) | decide) ?_; (conv => whnf))
          | ((with_reducible refine @And.intro (_ = _) _ ?_ ?_); (· rfl); (conv => whnf))
          | ((with_reducible refine @And.intro (@LE.le Nat _ _ _) _ ?_ ?_); (· (first | exact Nat.zero_le _ | exact Nat.le_of_ble_eq_true rfl | omega)); (conv => whnf))
          | ((with_reducible refine @And.intro (@LT.lt Nat _ _ _) _ ?_ ?_); (· omega); (conv => whnf))
          | ((with_reducible refine @And.intro (∃ _, _ = _) _ ?_ ?_); (· exact ⟨_, rfl⟩); (conv => whnf))
          | ((with_reducible refine @And.intro (_ ∨ _) _ ?_ ?_); (· (first | exact Or.inl rfl | exact Or.inr rfl | exact t_b01 _ | assumption)); (conv => whnf))
          | ((with_reducible refine @And.intro (¬ (_ = _)) _ ?_ ?_); (· first | assumption | (with_reducible assumption)); (conv => whnf))
          | (refine hX _ _ _ _ _ _ ?_; (conv => whnf); fail_if_success show False)
          | (rw [c_si]; (conv => whnf))
          | (refine ⟨_, rfl, ?_⟩; (conv => whnf))
          | (refine ⟨_, _, rfl, ?_⟩; (conv => whnf))
          | (refine ⟨_, _, _, rfl, ?_⟩; (conv => whnf))
          | (refine ⟨_, _, _, _, rfl, ?_⟩; (conv => whnf))
          | (refine And.intro (fun c => ?_) (fun c => ?_) <;> (first | (exact absurd c (by decide +kernel)) | (conv => whnf)))
          | fail)
        exact fin
  refine ⟨rfl, ?_⟩
  repeat' (first
    | ((with_reducible refine @And.intro (vp_in _ _) _ ?_ ?_); (· (first | with_reducible assumption | ((with_reducible refine t_vin ?_); decide) | ((with_reducible refine vp_in_nI ?_ ?_) <;> first | omega | decide) | (simp (disch := omega) only [xl_n, xl_m, nI_dec, nI_sb, nI_add, pk_mul]; (with_reducible refine vp_in_nI ?_ ?_) <;> first | omega | decide))); (conv => whnf))
    | (refine And.intro (by first | with_reducible assumption | exact (show cL _ _ = _ from rfl) | decide) ?_; (conv => whnf))
    | ((with_reducible refine @And.intro (_ = _) _ ?_ ?_); (· rfl); (conv => whnf))
    | ((with_reducible refine @And.intro (@LE.le Nat _ _ _) _ ?_ ?_); (· (first | exact Nat.zero_le _ | exact Nat.le_of_ble_eq_true rfl | omega)); (conv => whnf))
    | ((with_reducible refine @And.intro (@LT.lt Nat _ _ _) _ ?_ ?_); (· omega); (conv => whnf))
    | ((with_reducible refine @And.intro (∃ _, _ = _) _ ?_ ?_); (· exact ⟨_, rfl⟩); (conv => whnf))
    | ((with_reducible refine @And.intro (_ ∨ _) _ ?_ ?_); (· (first | exact Or.inl rfl | exact Or.inr rfl | exact t_b01 _ | assumption)); (conv => whnf))
    | ((with_reducible refine @And.intro (¬ (_ = _)) _ ?_ ?_); (· first | assumption | (with_reducible assumption)); (conv => whnf))
    | (refine hX _ _ _ _ _ _ ?_; (conv => whnf); fail_if_success show False)
    | (rw [c_si]; (conv => whnf))
    | (refine ⟨_, rfl, ?_⟩; (conv => whnf))
    | (refine ⟨_, _, rfl, ?_⟩; (conv => whnf))
    | (refine ⟨_, _, _, rfl, ?_⟩; (conv => whnf))
    | (refine ⟨_, _, _, _, rfl, ?_⟩; (conv => whnf))
    | (refine ⟨7,5,L,rfl,h7,ht,?_⟩; (conv => whnf))
    | (rw [c_tl h5]; (conv => whnf))
    | (rw [c_t7 h5]; (conv => whnf))
    | (rw [c_tf h5 (by decide)]; (conv => whnf))
    | (rw [c_t0 h5]; (conv => whnf))
    | (rw [c_t1 h5]; (conv => whnf))
    | (rw [c_t2 h5]; (conv => whnf))
    | (rw [c_t3 h5]; (conv => whnf))
    | (rw [c_t4 h5]; (conv => whnf))
    | (rw [c_t5 h5]; (conv => whnf))
    | (refine And.intro ⟨_, c_tl h5⟩ ?_; (conv => whnf))
    | (rw [c_tl h7]; (conv => whnf))
    | (rw [c_t7 h7]; (conv => whnf))
    | (rw [c_tf h7 (by decide)]; (conv => whnf))
    | (rw [c_t0 h7]; (conv => whnf))
    | (rw [c_t1 h7]; (conv => whnf))
    | (rw [c_t2 h7]; (conv => whnf))
    | (rw [c_t3 h7]; (conv => whnf))
    | (rw [c_t4 h7]; (conv => whnf))
    | (rw [c_t5 h7]; (conv => whnf))
    | (refine And.intro ⟨_, c_tl h7⟩ ?_; (conv => whnf))
    | (refine And.intro (fun c => ?_) (fun c => ?_) <;> (first | (exact absurd c (by decide +kernel)) | (conv => whnf)))
    | fail)
  intro J hJ tJ eJ
  obtain ⟨t2, e2⟩ := c_ts_12 (v := seed) tJ
  have fin := l21 0 (Nat.zero_le _) (xm_u2 J 0 12 seed) (hJ.sp.tr c_sp_12) t2 (by
    rw [xm_u2_ne (by decide), ← cA_gy (I := J) (r := 7), eJ]
    exact ey) (by rw [e2, eJ]; rfl) (fun _ => by rw [xm_u2_at, if_pos rfl]; rfl) none none (Or.inl rfl) (Or.inl rfl)
  clear l21
  (conv => whnf)
  repeat' (first
    | ((with_reducible refine @And.intro (vp_in _ _) _ ?_ ?_); (· (first | with_reducible assumption | ((with_reducible refine t_vin ?_); decide) | ((with_reducible refine vp_in_nI ?_ ?_) <;> first | omega | decide) | (simp (disch := omega) only [xl_n, xl_m, nI_dec, nI_sb, nI_add, pk_mul]; (with_reducible refine vp_in_nI ?_ ?_) <;> first | omega | decide))); (conv => whnf))
    | (refine And.intro (by first | with_reducible assumption | exact (show cL _ _ = _ from rfl) | decide) ?_; (conv => whnf))
    | ((with_reducible refine @And.intro (_ = _) _ ?_ ?_); (· rfl); (conv => whnf))
    | ((with_reducible refine @And.intro (@LE.le Nat _ _ _) _ ?_ ?_); (· (first | exact Nat.zero_le _ | exact Nat.le_of_ble_eq_true rfl | omega)); (conv => whnf))
    | ((with_reducible refine @And.intro (@LT.lt Nat _ _ _) _ ?_ ?_); (· omega); (conv => whnf))
    | ((with_reducible refine @And.intro (∃ _, _ = _) _ ?_ ?_); (· exact ⟨_, rfl⟩); (conv => whnf))
    | ((with_reducible refine @And.intro (_ ∨ _) _ ?_ ?_); (· (first | exact Or.inl rfl | exact Or.inr rfl | exact t_b01 _ | assumption)); (conv => whnf))
    | ((with_reducible refine @And.intro (¬ (_ = _)) _ ?_ ?_); (· first | assumption | (with_reducible assumption)); (conv => whnf))
    | (refine hX _ _ _ _ _ _ ?_; (conv => whnf); fail_if_success show False)
    | (rw [c_si]; (conv => whnf))
    | (refine ⟨_, rfl, ?_⟩; (conv => whnf))
    | (refine ⟨_, _, rfl, ?_⟩; (conv => whnf))
    | (refine ⟨_, _, _, rfl, ?_⟩; (conv => whnf))
    | (refine ⟨_, _, _, _, rfl, ?_⟩; (conv => whnf))
    | (refine And.intro (fun c => ?_) (fun c => ?_) <;> (first | (exact absurd c (by decide +kernel)) | (conv => whnf)))
    | fail)
  exact fin
theorem ct_X1_fated : xm_Ct cI yX1_fated (ws_ yX1_fated cX1_fated 8 (some (.object "PuppetHeirs$Troupe"))) 163 0 0 S_X1_fated := xm_enter (rt := 3) (init := false) (by decide +kernel) rfl (fun h => by cases h) (Or.inr (Or.inr (Or.inr (Or.inl ⟨rfl, Or.inl ⟨_, rfl⟩⟩)))) (oX1_fated) body_X1_fated
theorem cv_X1_fated {own : String} {cc : ByteArray} {fr pc idx : Nat} (hdg : decode cc pc = .ok (.invokevirtual idx, 3)) (hl : xm_ml own idx yX1_fated) (hfr : 163 < fr) : xm_CallOK cI own cc fr pc (pc + 3) 4 0 0 (xm_this 0 S_X1_fated) := xm_callV 0 cI_good (ct_X1_fated) hdg hl q1907 qs48 q116 q1908 rfl rfl (by decide +kernel) hfr (by decide)
