/-! ===== the component: fates asked for, span ===== -/
set_option maxRecDepth 100000
set_option maxHeartbeats 1000000
abbrev bX1_isFate_0 : List xE := [(.iload_n 0, 1, 0, 0, 0), (.ifCond .lt 24, 4, 0, 25, 0), (.iload_n 0, 5, 0, 0, 0), (.bipush 16, 7, 0, 0, 0), (.if_icmp .gt 18, 10, 0, 25, 0), (.iload_n 1, 11, 0, 0, 0), (.iconst 1, 12, 0, 0, 0), (.if_icmp .lt 13, 15, 0, 25, 0), (.iload_n 1, 16, 0, 0, 0), (.bipush 40, 18, 0, 0, 0), (.if_icmp .gt 7, 21, 0, 25, 0), (.iconst 1, 22, 0, 0, 0), (.goto 4, 25, 0, 26, 0)]
abbrev bX1_isFate_25 : List xE := [(.iconst 0, 26, 0, 0, 0)]
abbrev bX1_isFate_26 : List xE := [(.ireturn, 27, 0, 0, 0)]
abbrev kX1_isFate : List (Nat × List xE) := [(0, bX1_isFate_0), (25, bX1_isFate_25), (26, bX1_isFate_26)]
abbrev lX1_isFate : List (Nat × Nat × Nat × xS) := []
theorem oX1_isFate_0  : xm_okb cI RX1 cX1_isFate false 1 lX1_isFate bX1_isFate_0 0 := xo_0 dX1_isFate_0 rfl trivial (xo_0 dX1_isFate_1 rfl rfl (xo_0 dX1_isFate_4 rfl trivial (xo_0 dX1_isFate_5 rfl (xo_bipush (by decide +kernel)) (xo_0 dX1_isFate_7 rfl rfl (xo_0 dX1_isFate_10 rfl trivial (xo_0 dX1_isFate_11 rfl trivial (xo_0 dX1_isFate_12 rfl rfl (xo_0 dX1_isFate_15 rfl trivial (xo_0 dX1_isFate_16 rfl (xo_bipush (by decide +kernel)) (xo_0 dX1_isFate_18 rfl rfl (xo_0 dX1_isFate_21 rfl trivial (xo_0 dX1_isFate_22 rfl rfl (xo_n)))))))))))))
theorem oX1_isFate_25  : xm_okb cI RX1 cX1_isFate false 1 lX1_isFate bX1_isFate_25 25 := xo_0 dX1_isFate_25 rfl trivial (xo_n)
theorem oX1_isFate_26  : xm_okb cI RX1 cX1_isFate false 1 lX1_isFate bX1_isFate_26 26 := xo_0 dX1_isFate_26 rfl trivial (xo_n)
theorem oX1_isFate  : ∀ q ∈ kX1_isFate, xm_okb cI RX1 cX1_isFate false 1 lX1_isFate q.2 q.1 := by
  intro q hq
  simp only [List.mem_cons, List.not_mem_nil, or_false] at hq
  rcases hq with rfl | rfl | rfl
  · exact oX1_isFate_0  
  · exact oX1_isFate_25  
  · exact oX1_isFate_26  
def S_X1_isFate : xS := fun as w Q _ => ∃ a b, as = [.int a, .int b] ∧ Q (some (.int (t_b (t_in a (nI 0) (nI 16) && t_in b (nI 1) (nI 40))))) w
theorem body_X1_isFate : xm_Body 2 1 0 0 [] lX1_isFate kX1_isFate S_X1_isFate := by
  intro X avs w Q QX hX0 hS
  have hG := xm_go [] hX0
  have hX := xm_go [] hX0
  clear hX0
  obtain ⟨a, b, rfl, hQ⟩ := hS
  have r16 : ∀ n, n ≤ 16 → ¬ nI n < 0 ∧ ¬ Int32.ofInt 16 < nI n := fun n hn => ⟨(nI_nn (by omega)).1, fun q => by
    have : nI n ≤ nI 16 := (nI_leI (by omega) (by omega)).mpr hn
    exact absurd this (Int32.not_le.mpr q)⟩
  have r40 : ∀ n, 1 ≤ n → n ≤ 40 → ¬ nI n < Int32.ofInt 1 ∧ ¬ Int32.ofInt 40 < nI n := fun n h1 hn => ⟨fun q => by
    have : nI 1 ≤ nI n := (nI_leI (by omega) (by omega)).mpr h1
    exact absurd this (Int32.not_le.mpr q), fun q => by
    have : nI n ≤ nI 40 := (nI_leI (by omega) (by omega)).mpr hn
    exact absurd this (Int32.not_le.mpr q)⟩
  refine ⟨rfl, ?_⟩
  rcases c_rc a 0 16 (A := 0) (B := Int32.ofInt 16) (by decide +kernel) (by decide +kernel) (by omega) (by omega) with ⟨n, -, hn, rfl, e1⟩ | ⟨e1, h1⟩ | ⟨e1, h1, h2⟩
  · obtain ⟨d1, d2⟩ := r16 n hn
    rcases c_rc b 1 40 (A := Int32.ofInt 1) (B := Int32.ofInt 40) (by decide +kernel) (by decide +kernel) (by omega) (by omega) with ⟨m, hm1, hm, rfl, e2⟩ | ⟨e2, h3⟩ | ⟨e2, h3, h4⟩
    · obtain ⟨d3, d4⟩ := r40 m hm1 hm
      rw [e1, e2] at hQ
      repeat' (first
        | ((with_reducible refine @And.intro (vp_in _ _) _ ?_ ?_); (· (first | with_reducible assumption | ((with_reducible refine t_vin ?_); decide) | ((with_reducible refine vp_in_nI ?_ ?_) <;> first | omega | decide) | (simp (disch := omega) only [xl_n, xl_m, nI_dec, nI_sb, nI_add, pk_mul]; (with_reducible refine vp_in_nI ?_ ?_) <;> first | omega | decide))); (conv => whnf))
        | (refine And.intro (by first | with_reducible assumption | exact (show cL _ _ = _ from rfl) | decide) ?_; (conv => whnf))
        | ((with_reducible refine @And.intro (_ = _) _ ?_ ?_); (· rfl); (conv => whnf))
        | ((with_reducible refine @And.intro (@LE.le Nat _ _ _) _ ?_ ?_); (· (first | exact Nat.zero_le _ | exact Nat.le_of_ble_eq_true rfl | omega)); (conv => whnf))
        | ((with_reducible refine @And.intro (@LT.lt Nat _ _ _) _ ?_ ?_); (· omega); (conv => whnf))
        | ((with_reducible refine @And.intro (∃ _, _ = _) _ ?_ ?_); (· exact ⟨_, rfl⟩); (conv => whnf))
        | ((with_reducible refine @And.intro (_ ∨ _) _ ?_ ?_); (· (first | exact Or.inl rfl | exact Or.inr rfl | exact t_b01 _ | assumption)); (conv => whnf))
        | ((with_reducible refine @And.intro (¬ (_ = _)) _ ?_ ?_); (· first | assumption | (with_reducible assumption)); (conv => whnf))
        | (refine hX _ _ _ _ _ _ ?_; (conv => whnf); fail_if_success show False)
        | (rw [c_si]; (conv => whnf))
        | (refine ⟨_, rfl, ?_⟩; (conv => whnf))
        | (refine ⟨_, _, rfl, ?_⟩; (conv => whnf))
        | (refine ⟨_, _, _, rfl, ?_⟩; (conv => whnf))
        | (refine ⟨_, _, _, _, rfl, ?_⟩; (conv => whnf))
        | (refine And.intro (fun c => ?_) (fun c => ?_) <;> (first | (exact absurd c (by decide +kernel)) | (exact absurd c (by assumption)) | (exact False.elim (c (by assumption))) | (conv => whnf)))
        | fail)
      exact hQ
    all_goals
      rw [e1, e2] at hQ
      repeat' (first
        | ((with_reducible refine @And.intro (vp_in _ _) _ ?_ ?_); (· (first | with_reducible assumption | ((with_reducible refine t_vin ?_); decide) | ((with_reducible refine vp_in_nI ?_ ?_) <;> first | omega | decide) | (simp (disch := omega) only [xl_n, xl_m, nI_dec, nI_sb, nI_add, pk_mul]; (with_reducible refine vp_in_nI ?_ ?_) <;> first | omega | decide))); (conv => whnf))
        | (refine And.intro (by first | with_reducible assumption | exact (show cL _ _ = _ from rfl) | decide) ?_; (conv => whnf))
        | ((with_reducible refine @And.intro (_ = _) _ ?_ ?_); (· rfl); (conv => whnf))
        | ((with_reducible refine @And.intro (@LE.le Nat _ _ _) _ ?_ ?_); (· (first | exact Nat.zero_le _ | exact Nat.le_of_ble_eq_true rfl | omega)); (conv => whnf))
        | ((with_reducible refine @And.intro (@LT.lt Nat _ _ _) _ ?_ ?_); (· omega); (conv => whnf))
        | ((with_reducible refine @And.intro (∃ _, _ = _) _ ?_ ?_); (· exact ⟨_, rfl⟩); (conv => whnf))
        | ((with_reducible refine @And.intro (_ ∨ _) _ ?_ ?_); (· (first | exact Or.inl rfl | exact Or.inr rfl | exact t_b01 _ | assumption)); (conv => whnf))
        | ((with_reducible refine @And.intro (¬ (_ = _)) _ ?_ ?_); (· first | assumption | (with_reducible assumption)); (conv => whnf))
        | (refine hX _ _ _ _ _ _ ?_; (conv => whnf); fail_if_success show False)
        | (rw [c_si]; (conv => whnf))
        | (refine ⟨_, rfl, ?_⟩; (conv => whnf))
        | (refine ⟨_, _, rfl, ?_⟩; (conv => whnf))
        | (refine ⟨_, _, _, rfl, ?_⟩; (conv => whnf))
        | (refine ⟨_, _, _, _, rfl, ?_⟩; (conv => whnf))
        | (refine And.intro (fun c => ?_) (fun c => ?_) <;> (first | (exact absurd c (by decide +kernel)) | (exact absurd c (by assumption)) | (exact False.elim (c (by assumption))) | (conv => whnf)))
        | fail)
      exact hQ
  all_goals
    rw [e1, Bool.false_and] at hQ
    repeat' (first
      | ((with_reducible refine @And.intro (vp_in _ _) _ ?_ ?_); (· (first | with_reducible assumption | ((with_reducible refine t_vin ?_); decide) | ((with_reducible refine vp_in_nI ?_ ?_) <;> first | omega | decide) | (simp (disch := omega) only [xl_n, xl_m, nI_dec, nI_sb, nI_add, pk_mul]; (with_reducible refine vp_in_nI ?_ ?_) <;> first | omega | decide))); (conv => whnf))
      | (refine And.intro (by first | with_reducible assumption | exact (show cL _ _ = _ from rfl) | decide) ?_; (conv => whnf))
      | ((with_reducible refine @And.intro (_ = _) _ ?_ ?_); (· rfl); (conv => whnf))
      | ((with_reducible refine @And.intro (@LE.le Nat _ _ _) _ ?_ ?_); (· (first | exact Nat.zero_le _ | exact Nat.le_of_ble_eq_true rfl | omega)); (conv => whnf))
      | ((with_reducible refine @And.intro (@LT.lt Nat _ _ _) _ ?_ ?_); (· omega); (conv => whnf))
      | ((with_reducible refine @And.intro (∃ _, _ = _) _ ?_ ?_); (· exact ⟨_, rfl⟩); (conv => whnf))
      | ((with_reducible refine @And.intro (_ ∨ _) _ ?_ ?_); (· (first | exact Or.inl rfl | exact Or.inr rfl | exact t_b01 _ | assumption)); (conv => whnf))
      | ((with_reducible refine @And.intro (¬ (_ = _)) _ ?_ ?_); (· first | assumption | (with_reducible assumption)); (conv => whnf))
      | (refine hX _ _ _ _ _ _ ?_; (conv => whnf); fail_if_success show False)
      | (rw [c_si]; (conv => whnf))
      | (refine ⟨_, rfl, ?_⟩; (conv => whnf))
      | (refine ⟨_, _, rfl, ?_⟩; (conv => whnf))
      | (refine ⟨_, _, _, rfl, ?_⟩; (conv => whnf))
      | (refine ⟨_, _, _, _, rfl, ?_⟩; (conv => whnf))
      | (refine And.intro (fun c => ?_) (fun c => ?_) <;> (first | (exact absurd c (by decide +kernel)) | (exact absurd c (by assumption)) | (exact False.elim (c (by assumption))) | (conv => whnf)))
      | fail)
    exact hQ
theorem ct_X1_isFate : xm_Ct cI yX1_isFate (ws_ yX1_isFate cX1_isFate 2 (some .boolean)) 1 0 0 S_X1_isFate := xm_enter (rt := 1) (init := false) (by decide +kernel) rfl (fun h => by cases h) (Or.inr (Or.inl ⟨rfl, Or.inl rfl⟩)) (oX1_isFate) body_X1_isFate
theorem cv_X1_isFate {own : String} {cc : ByteArray} {fr pc idx : Nat} (hdg : decode cc pc = .ok (.invokestatic idx, 3)) (hl : xm_ml own idx yX1_isFate) (hfr : 1 < fr) : xm_CallOK cI own cc fr pc (pc + 3) 2 0 0 S_X1_isFate := xm_callS cI_good (ct_X1_isFate) hdg hl q1903 q116 q1904 (by decide +kernel) hfr (by decide)
theorem t_or_al {K : gK} {T : gT} : t_or (gn K) (g_al K T) = g_alive K T := rfl
abbrev bX1_fates_0 : List xE := [(.aload_n 0, 1, 0, 0, 0), (.iload_n 2, 2, 0, 0, 0), (.iload_n 3, 3, 0, 0, 0), (.invokestatic 405, 6, 0, 0, 9), (.ifCond .eq 18, 9, 0, 24, 0), (.iload 4, 11, 0, 0, 0), (.ifCond .lt 13, 14, 0, 24, 0), (.iload 4, 16, 0, 0, 0), (.iconst 3, 17, 0, 0, 0), (.if_icmp .gt 7, 20, 0, 24, 0), (.iconst 1, 21, 0, 0, 0), (.goto 4, 24, 0, 25, 0)]
abbrev bX1_fates_24 : List xE := [(.iconst 0, 25, 0, 0, 0)]
abbrev bX1_fates_25 : List xE := [(.invokevirtual 160, 28, 0, 1, 9), (.aload_n 0, 29, 0, 0, 0), (.iload_n 1, 30, 0, 0, 0), (.iload_n 2, 31, 0, 0, 0), (.iload_n 3, 32, 0, 0, 0), (.invokevirtual 408, 35, 0, 2, 9), (.astore 5, 37, 0, 0, 0), (.iload 4, 39, 0, 0, 0), (.ifCond .ne 12, 42, 0, 51, 0), (.aload 5, 44, 0, 0, 0), (.invokevirtual 204, 47, 0, 3, 9), (.invokestatic 207, 50, 0, 4, 9), (.ireturn, 51, 0, 0, 0)]
abbrev bX1_fates_51 : List xE := [(.iload 4, 53, 0, 0, 0), (.iconst 2, 54, 0, 0, 0), (.if_icmp .ne 18, 57, 0, 72, 0), (.aload_n 0, 58, 0, 0, 0), (.aload 5, 60, 0, 0, 0), (.aload 5, 62, 0, 0, 0), (.invokevirtual 204, 65, 0, 3, 9), (.invokevirtual 349, 68, 0, 5, 9), (.invokestatic 207, 71, 0, 4, 9), (.ireturn, 72, 0, 0, 0)]
abbrev bX1_fates_72 : List xE := [(.iload 4, 74, 0, 0, 0), (.iconst 3, 75, 0, 0, 0), (.if_icmp .ne 10, 78, 0, 85, 0), (.aload_n 0, 79, 0, 0, 0), (.aload 5, 81, 0, 0, 0), (.invokevirtual 213, 84, 0, 6, 9), (.ireturn, 85, 0, 0, 0)]
abbrev bX1_fates_85 : List xE := [(.iconst 0, 86, 0, 0, 0), (.istore 6, 88, 0, 0, 0), (.iconst 0, 89, 0, 0, 0), (.istore 7, 91, 0, 0, 0)]
abbrev bX1_fates_91 : List xE := [(.iload 7, 93, 0, 0, 0), (.aload_n 0, 94, 0, 0, 0), (.getfield 31, 97, 0, 0, 1), (.getfield 133, 100, 1, 12, 0), (.if_icmp .ge 29, 103, 0, 129, 0), (.iload 6, 105, 0, 0, 0), (.aload 5, 107, 0, 0, 0), (.iload 7, 109, 0, 0, 0), (.invokevirtual 250, 112, 0, 7, 9), (.ifCond .le 7, 115, 0, 119, 0), (.iconst 1, 116, 0, 0, 0), (.goto 4, 119, 0, 120, 0)]
abbrev bX1_fates_119 : List xE := [(.iconst 0, 120, 0, 0, 0)]
abbrev bX1_fates_120 : List xE := [(.iadd, 121, 0, 0, 0), (.istore 6, 123, 0, 0, 0), (.iinc 7 1, 126, 0, 0, 0), (.goto (-35), 129, 0, 91, 0)]
abbrev bX1_fates_129 : List xE := [(.iload 6, 131, 0, 0, 0), (.ireturn, 132, 0, 0, 0)]
abbrev kX1_fates : List (Nat × List xE) := [(0, bX1_fates_0), (24, bX1_fates_24), (25, bX1_fates_25), (51, bX1_fates_51), (72, bX1_fates_72), (85, bX1_fates_85), (91, bX1_fates_91), (119, bX1_fates_119), (120, bX1_fates_120), (129, bX1_fates_129)]
abbrev lX1_fates : List (Nat × Nat × Nat × xS) := [(2, 0, 0, S_X1_isFate), (2, 1, 6, xm_this 0 S_X1_need), (4, 0, 0, xm_this 0 S_X1_fated), (1, 0, 0, xm_this 7 S_X10_alive), (1, 0, 0, S_J16_bitCount), (3, 0, 0, xm_this 0 S_X1_playedBy), (2, 0, 0, xm_this 0 S_X1_stringsOf), (2, 0, 0, xm_this 7 S_X10_lacks)]
theorem oX1_fates_0  : xm_okb cI RX1 cX1_fates false 164 lX1_fates bX1_fates_0 0 := xo_0 dX1_fates_0 rfl trivial (xo_0 dX1_fates_1 rfl trivial (xo_0 dX1_fates_2 rfl trivial (xo_c rfl (cv_X1_isFate dX1_fates_3 (Or.inl q1902) (by decide)) (xo_0 dX1_fates_6 rfl rfl (xo_0 dX1_fates_9 rfl trivial (xo_0 dX1_fates_11 rfl rfl (xo_0 dX1_fates_14 rfl trivial (xo_0 dX1_fates_16 rfl trivial (xo_0 dX1_fates_17 rfl rfl (xo_0 dX1_fates_20 rfl trivial (xo_0 dX1_fates_21 rfl rfl (xo_n))))))))))))
theorem oX1_fates_24  : xm_okb cI RX1 cX1_fates false 164 lX1_fates bX1_fates_24 24 := xo_0 dX1_fates_24 rfl trivial (xo_n)
theorem oX1_fates_25  : xm_okb cI RX1 cX1_fates false 164 lX1_fates bX1_fates_25 25 := xo_c rfl (cv_X1_need dX1_fates_25 (Or.inl q1030) (by decide)) (xo_0 dX1_fates_28 rfl trivial (xo_0 dX1_fates_29 rfl trivial (xo_0 dX1_fates_30 rfl trivial (xo_0 dX1_fates_31 rfl trivial (xo_c rfl (cv_X1_fated dX1_fates_32 (Or.inl q1905) (by decide)) (xo_0 dX1_fates_35 rfl trivial (xo_0 dX1_fates_37 rfl trivial (xo_0 dX1_fates_39 rfl rfl (xo_0 dX1_fates_42 rfl trivial (xo_c rfl (cv_X10_alive dX1_fates_44 (Or.inl q802) (by decide)) (xo_c rfl (cv_J16_bitCount dX1_fates_47 (Or.inl q846) (by decide)) (xo_0 dX1_fates_50 rfl trivial (xo_n)))))))))))))
theorem oX1_fates_51  : xm_okb cI RX1 cX1_fates false 164 lX1_fates bX1_fates_51 51 := xo_0 dX1_fates_51 rfl trivial (xo_0 dX1_fates_53 rfl trivial (xo_0 dX1_fates_54 rfl rfl (xo_0 dX1_fates_57 rfl trivial (xo_0 dX1_fates_58 rfl trivial (xo_0 dX1_fates_60 rfl trivial (xo_c rfl (cv_X10_alive dX1_fates_62 (Or.inl q802) (by decide)) (xo_c rfl (cv_X1_playedBy dX1_fates_65 (Or.inl q806) (by decide)) (xo_c rfl (cv_J16_bitCount dX1_fates_68 (Or.inl q846) (by decide)) (xo_0 dX1_fates_71 rfl trivial (xo_n))))))))))
theorem oX1_fates_72  : xm_okb cI RX1 cX1_fates false 164 lX1_fates bX1_fates_72 72 := xo_0 dX1_fates_72 rfl trivial (xo_0 dX1_fates_74 rfl trivial (xo_0 dX1_fates_75 rfl rfl (xo_0 dX1_fates_78 rfl trivial (xo_0 dX1_fates_79 rfl trivial (xo_c rfl (cv_X1_stringsOf dX1_fates_81 (Or.inl q1564) (by decide)) (xo_0 dX1_fates_84 rfl trivial (xo_n)))))))
theorem oX1_fates_85  : xm_okb cI RX1 cX1_fates false 164 lX1_fates bX1_fates_85 85 := xo_0 dX1_fates_85 rfl trivial (xo_0 dX1_fates_86 rfl trivial (xo_0 dX1_fates_88 rfl trivial (xo_0 dX1_fates_89 rfl trivial (xo_n))))
theorem oX1_fates_91  : xm_okb cI RX1 cX1_fates false 164 lX1_fates bX1_fates_91 91 := xo_0 dX1_fates_91 rfl trivial (xo_0 dX1_fates_93 rfl trivial (xo_1 dX1_fates_94 rfl (xm_fg_of (Or.inl q716) (by decide) rfl (by decide) rfl rfl (Or.inl rfl) rfl) (xo_0 dX1_fates_97 rfl (xm_fg_of (Or.inr ⟨_, q560⟩) (by decide) rfl (by decide) rfl rfl (Or.inl rfl) rfl) (xo_0 dX1_fates_100 rfl rfl (xo_0 dX1_fates_103 rfl trivial (xo_0 dX1_fates_105 rfl trivial (xo_0 dX1_fates_107 rfl trivial (xo_c rfl (cv_X10_lacks dX1_fates_109 (Or.inl q991) (by decide)) (xo_0 dX1_fates_112 rfl rfl (xo_0 dX1_fates_115 rfl trivial (xo_0 dX1_fates_116 rfl rfl (xo_n))))))))))))
theorem oX1_fates_119  : xm_okb cI RX1 cX1_fates false 164 lX1_fates bX1_fates_119 119 := xo_0 dX1_fates_119 rfl trivial (xo_n)
theorem oX1_fates_120  : xm_okb cI RX1 cX1_fates false 164 lX1_fates bX1_fates_120 120 := xo_0 dX1_fates_120 rfl trivial (xo_0 dX1_fates_121 rfl trivial (xo_0 dX1_fates_123 rfl trivial (xo_0 dX1_fates_126 rfl rfl (xo_n))))
theorem oX1_fates_129  : xm_okb cI RX1 cX1_fates false 164 lX1_fates bX1_fates_129 129 := xo_0 dX1_fates_129 rfl trivial (xo_0 dX1_fates_131 rfl trivial (xo_n))
theorem oX1_fates  : ∀ q ∈ kX1_fates, xm_okb cI RX1 cX1_fates false 164 lX1_fates q.2 q.1 := by
  intro q hq
  simp only [List.mem_cons, List.not_mem_nil, or_false] at hq
  rcases hq with rfl | rfl | rfl | rfl | rfl | rfl | rfl | rfl | rfl | rfl
  · exact oX1_fates_0  
  · exact oX1_fates_24  
  · exact oX1_fates_25  
  · exact oX1_fates_51  
  · exact oX1_fates_72  
  · exact oX1_fates_85  
  · exact oX1_fates_91  
  · exact oX1_fates_119  
  · exact oX1_fates_120  
  · exact oX1_fates_129  
def S_X1_fates : xS := cU fun as P Z I Q QX => ∃ seed q n what L, as = [.ref 0, .int seed, .int q, .int n, .int what] ∧ c_good P Z I L ∧ g_ok (cG P I L) ∧ c_P P Z L (cG P I L) Q QX (q_fates (cG P I L) seed q n what)
theorem body_X1_fates : xm_Body 8 0 1 6 [] lX1_fates kX1_fates S_X1_fates := by
  intro X avs w Q QX hX0 hS
  have hG := xm_go [] hX0
  have hX := xm_go [91] hX0
  clear hX0
  obtain ⟨P, Z, I, rfl, seed, q, n, what, L, rfl, hg, hk0, hQ⟩ := hS
  have hok := hg.ok
  obtain ⟨hn, h9, hm, h8⟩ := id hok
  have h7 := c_7 (P := P)
  have h6 := hg.ls.1
  refine ⟨rfl, ?_⟩
  rw [q_fates] at hQ
  cases e0 : t_in q (nI 0) (nI 16) && t_in n (nI 1) (nI 40) with
  | false =>
    have ef : (t_in q (nI 0) (nI 16) && t_in n (nI 1) (nI 40) && t_in what (nI 0) (nI 3)) = false := by rw [e0]; rfl
    have d1 : t_b (t_in q (nI 0) (nI 16) && t_in n (nI 1) (nI 40)) = 0 := by rw [e0]; rfl
    repeat' (first
      | ((with_reducible refine @And.intro (vp_in _ _) _ ?_ ?_); (· (first | with_reducible assumption | ((with_reducible refine t_vin ?_); decide) | ((with_reducible refine vp_in_nI ?_ ?_) <;> first | omega | decide) | (simp (disch := omega) only [xl_n, xl_m, nI_dec, nI_sb, nI_add, pk_mul]; (with_reducible refine vp_in_nI ?_ ?_) <;> first | omega | decide))); (conv => whnf))
      | (refine And.intro (by first | with_reducible assumption | exact (show cL _ _ = _ from rfl) | decide) ?_; (conv => whnf))
      | ((with_reducible refine @And.intro (_ = _) _ ?_ ?_); (· rfl); (conv => whnf))
      | ((with_reducible refine @And.intro (@LE.le Nat _ _ _) _ ?_ ?_); (· (first | exact Nat.zero_le _ | exact Nat.le_of_ble_eq_true rfl | omega)); (conv => whnf))
      | ((with_reducible refine @And.intro (@LT.lt Nat _ _ _) _ ?_ ?_); (· omega); (conv => whnf))
      | ((with_reducible refine @And.intro (∃ _, _ = _) _ ?_ ?_); (· exact ⟨_, rfl⟩); (conv => whnf))
      | ((with_reducible refine @And.intro (_ ∨ _) _ ?_ ?_); (· (first | exact Or.inl rfl | exact Or.inr rfl | exact t_b01 _ | assumption)); (conv => whnf))
      | ((with_reducible refine @And.intro (¬ (_ = _)) _ ?_ ?_); (· first | assumption | (with_reducible assumption)); (conv => whnf))
      | (refine hX _ _ _ _ _ _ ?_; (conv => whnf); fail_if_success show False)
      | (rw [c_si]; (conv => whnf))
      | (refine ⟨_, rfl, ?_⟩; (conv => whnf))
      | (refine ⟨_, _, rfl, ?_⟩; (conv => whnf))
      | (refine ⟨_, _, _, rfl, ?_⟩; (conv => whnf))
      | (refine ⟨_, _, _, _, rfl, ?_⟩; (conv => whnf))
      | (refine ⟨q,n,rfl,?_⟩; (conv => whnf))
      | (refine ⟨true,rfl,?_⟩; (conv => whnf))
      | (refine ⟨false,rfl,?_⟩; (conv => whnf))
      | (refine And.intro (fun c => ?_) (fun c => ?_) <;> (first | (exact absurd c (by decide +kernel)) | (exact absurd c (by assumption)) | (exact False.elim (c (by assumption))) | (conv => whnf)))
      | fail)
    intro x hx
    exact c_ref1 hQ hg ef hx n1_0
  | true =>
    have d1 : ¬ t_b (t_in q (nI 0) (nI 16) && t_in n (nI 1) (nI 40)) = 0 := by rw [e0]; decide +kernel
    rcases c_rc what 0 3 (A := 0) (B := Int32.ofInt 3) (by decide +kernel) (by decide +kernel) (by omega) (by omega) with ⟨w, -, hw, rfl, e1⟩ | ⟨e1, h1⟩ | ⟨e1, h1, h2⟩
    · rw [e0, e1, Bool.and_self, g_ck_t] at hQ
      obtain ⟨n, hn40, rfl⟩ : ∃ m, m ≤ 40 ∧ n = nI m := by
        rw [Bool.and_eq_true] at e0
        rcases c_rc n 1 40 (A := Int32.ofInt 1) (B := Int32.ofInt 40) (by decide +kernel) (by decide +kernel) (by omega) (by omega) with ⟨m, hm1, hm, rfl, e2⟩ | ⟨e2, h3⟩ | ⟨e2, h3, h4⟩
        · exact ⟨m, hm, rfl⟩
        · rw [e2] at e0
          cases e0.2
        · rw [e2] at e0
          cases e0.2
      rw [nI_clamp (by omega)] at hQ
      have yes : t_b true = 1 := rfl
      have after : ∀ J, c_sp I J → c_ts P Z J 7 L → cA J 7 = g_fated (cG P I L) seed q n → c_good P Z J L ∧ cG P J L = cG P I L ∧ c_ok J ∧ c_is J 7 ∧ t_or (c_h J) (fun h => decide (J (10 * 7) h = nI 1)) = g_alive (cK I L) (cA J 7) := fun J hJ tJ eJ => ⟨hJ.good hg, hJ.G hg, (hJ.good hg).ok, tJ.2.2.1, by rw [c_al (L := L) tJ.2.2.1, hJ.kp.K hok hg.2.2.2.2.1]⟩
      have qq : w = 0 ∨ w = 1 ∨ w = 2 ∨ w = 3 := by omega
      rcases qq with rfl | rfl | rfl | rfl
      · repeat' (first
          | ((with_reducible refine @And.intro (vp_in _ _) _ ?_ ?_); (· (first | with_reducible assumption | ((with_reducible refine t_vin ?_); decide) | ((with_reducible refine vp_in_nI ?_ ?_) <;> first | omega | decide) | (simp (disch := omega) only [xl_n, xl_m, nI_dec, nI_sb, nI_add, pk_mul]; (with_reducible refine vp_in_nI ?_ ?_) <;> first | omega | decide))); (conv => whnf))
          | (refine And.intro (by first | with_reducible assumption | exact (show cL _ _ = _ from rfl) | decide) ?_; (conv => whnf))
          | ((with_reducible refine @And.intro (_ = _) _ ?_ ?_); (· rfl); (conv => whnf))
          | ((with_reducible refine @And.intro (@LE.le Nat _ _ _) _ ?_ ?_); (· (first | exact Nat.zero_le _ | exact Nat.le_of_ble_eq_true rfl | omega)); (conv => whnf))
          | ((with_reducible refine @And.intro (@LT.lt Nat _ _ _) _ ?_ ?_); (· omega); (conv => whnf))
          | ((with_reducible refine @And.intro (∃ _, _ = _) _ ?_ ?_); (· exact ⟨_, rfl⟩); (conv => whnf))
          | ((with_reducible refine @And.intro (_ ∨ _) _ ?_ ?_); (· (first | exact Or.inl rfl | exact Or.inr rfl | exact t_b01 _ | assumption)); (conv => whnf))
          | ((with_reducible refine @And.intro (¬ (_ = _)) _ ?_ ?_); (· first | assumption | (with_reducible assumption)); (conv => whnf))
          | (refine hX _ _ _ _ _ _ ?_; (conv => whnf); fail_if_success show False)
          | (rw [c_si]; (conv => whnf))
          | (refine ⟨_, rfl, ?_⟩; (conv => whnf))
          | (refine ⟨_, _, rfl, ?_⟩; (conv => whnf))
          | (refine ⟨_, _, _, rfl, ?_⟩; (conv => whnf))
          | (refine ⟨_, _, _, _, rfl, ?_⟩; (conv => whnf))
          | (refine ⟨q,nI n,rfl,?_⟩; (conv => whnf))
          | (refine ⟨true,rfl,?_⟩; (conv => whnf))
          | (refine ⟨seed,q,n,L,rfl,hg,hk0,hn40,?_⟩; (conv => whnf))
          | (refine And.intro (fun c => ?_) (fun c => ?_) <;> (first | (exact absurd c (by decide +kernel)) | (exact absurd c (by assumption)) | (exact False.elim (c (by assumption))) | (conv => whnf)))
          | fail)
        intro J hJ tJ eJ
        obtain ⟨gJ, eG, okJ, iJ, eal⟩ := after J hJ tJ eJ
        have m9 : t_m9 (t_or (c_h J) (fun h => decide (J (10 * 7) h = nI 1))) := t_or_m9 okJ.2.1
        (conv => whnf)
        repeat' (first
          | ((with_reducible refine @And.intro (vp_in _ _) _ ?_ ?_); (· (first | with_reducible assumption | ((with_reducible refine t_vin ?_); decide) | ((with_reducible refine vp_in_nI ?_ ?_) <;> first | omega | decide) | (simp (disch := omega) only [xl_n, xl_m, nI_dec, nI_sb, nI_add, pk_mul]; (with_reducible refine vp_in_nI ?_ ?_) <;> first | omega | decide))); (conv => whnf))
          | (refine And.intro (by first | with_reducible assumption | exact (show cL _ _ = _ from rfl) | decide) ?_; (conv => whnf))
          | ((with_reducible refine @And.intro (_ = _) _ ?_ ?_); (· rfl); (conv => whnf))
          | ((with_reducible refine @And.intro (@LE.le Nat _ _ _) _ ?_ ?_); (· (first | exact Nat.zero_le _ | exact Nat.le_of_ble_eq_true rfl | omega)); (conv => whnf))
          | ((with_reducible refine @And.intro (@LT.lt Nat _ _ _) _ ?_ ?_); (· omega); (conv => whnf))
          | ((with_reducible refine @And.intro (∃ _, _ = _) _ ?_ ?_); (· exact ⟨_, rfl⟩); (conv => whnf))
          | ((with_reducible refine @And.intro (_ ∨ _) _ ?_ ?_); (· (first | exact Or.inl rfl | exact Or.inr rfl | exact t_b01 _ | assumption)); (conv => whnf))
          | ((with_reducible refine @And.intro (¬ (_ = _)) _ ?_ ?_); (· first | assumption | (with_reducible assumption)); (conv => whnf))
          | (refine hX _ _ _ _ _ _ ?_; (conv => whnf); fail_if_success show False)
          | (rw [c_si]; (conv => whnf))
          | (refine ⟨_, rfl, ?_⟩; (conv => whnf))
          | (refine ⟨_, _, rfl, ?_⟩; (conv => whnf))
          | (refine ⟨_, _, _, rfl, ?_⟩; (conv => whnf))
          | (refine ⟨_, _, _, _, rfl, ?_⟩; (conv => whnf))
          | (refine ⟨7,rfl,h7,okJ,iJ,?_⟩; (conv => whnf))
          | (refine ⟨_,rfl,m9,?_⟩; (conv => whnf))
          | (refine And.intro (fun c => ?_) (fun c => ?_) <;> (first | (exact absurd c (by decide +kernel)) | (conv => whnf)))
          | fail)
        refine c_ask hQ hg hJ ?_
        rw [eal, eJ]
        rfl
      · repeat' (first
          | ((with_reducible refine @And.intro (vp_in _ _) _ ?_ ?_); (· (first | with_reducible assumption | ((with_reducible refine t_vin ?_); decide) | ((with_reducible refine vp_in_nI ?_ ?_) <;> first | omega | decide) | (simp (disch := omega) only [xl_n, xl_m, nI_dec, nI_sb, nI_add, pk_mul]; (with_reducible refine vp_in_nI ?_ ?_) <;> first | omega | decide))); (conv => whnf))
          | (refine And.intro (by first | with_reducible assumption | exact (show cL _ _ = _ from rfl) | decide) ?_; (conv => whnf))
          | ((with_reducible refine @And.intro (_ = _) _ ?_ ?_); (· rfl); (conv => whnf))
          | ((with_reducible refine @And.intro (@LE.le Nat _ _ _) _ ?_ ?_); (· (first | exact Nat.zero_le _ | exact Nat.le_of_ble_eq_true rfl | omega)); (conv => whnf))
          | ((with_reducible refine @And.intro (@LT.lt Nat _ _ _) _ ?_ ?_); (· omega); (conv => whnf))
          | ((with_reducible refine @And.intro (∃ _, _ = _) _ ?_ ?_); (· exact ⟨_, rfl⟩); (conv => whnf))
          | ((with_reducible refine @And.intro (_ ∨ _) _ ?_ ?_); (· (first | exact Or.inl rfl | exact Or.inr rfl | exact t_b01 _ | assumption)); (conv => whnf))
          | ((with_reducible refine @And.intro (¬ (_ = _)) _ ?_ ?_); (· first | assumption | (with_reducible assumption)); (conv => whnf))
          | (refine hX _ _ _ _ _ _ ?_; (conv => whnf); fail_if_success show False)
          | (rw [c_si]; (conv => whnf))
          | (refine ⟨_, rfl, ?_⟩; (conv => whnf))
          | (refine ⟨_, _, rfl, ?_⟩; (conv => whnf))
          | (refine ⟨_, _, _, rfl, ?_⟩; (conv => whnf))
          | (refine ⟨_, _, _, _, rfl, ?_⟩; (conv => whnf))
          | (refine ⟨q,nI n,rfl,?_⟩; (conv => whnf))
          | (refine ⟨true,rfl,?_⟩; (conv => whnf))
          | (refine ⟨seed,q,n,L,rfl,hg,hk0,hn40,?_⟩; (conv => whnf))
          | (refine And.intro (fun c => ?_) (fun c => ?_) <;> (first | (exact absurd c (by decide +kernel)) | (exact absurd c (by assumption)) | (exact False.elim (c (by assumption))) | (conv => whnf)))
          | fail)
        intro J hJ tJ eJ
        obtain ⟨gJ, eG, okJ, iJ, eal⟩ := after J hJ tJ eJ
        have loop : ∀ k, k ≤ c_p I → X 91 [some (.ref 0), some (.int seed), some (.int q), some (.int (nI n)), some (.int (nI 1)), some (.ref 7), some (.int (g_lackN (cK I L) (cA J 7) k)), some (.int (nI k))] [] (cW P Z J) 0 0 := by
          refine t_for fun k h1 ih => ?_
          have hmJ : J 1 12 = nI (c_p I) := by rw [hJ.kp.f (b := 1) (by omega)]; exact hm
          by_cases hk : k = c_p I
          · subst hk
            have d2 : J 1 12 ≤ nI (c_p I) := by rw [hmJ]; exact Int32.le_refl _
            clear ih
            refine hG _ _ _ _ _ _ ?_
            (conv => whnf)
            repeat' (first
              | ((with_reducible refine @And.intro (vp_in _ _) _ ?_ ?_); (· (first | with_reducible assumption | ((with_reducible refine t_vin ?_); decide) | ((with_reducible refine vp_in_nI ?_ ?_) <;> first | omega | decide) | (simp (disch := omega) only [xl_n, xl_m, nI_dec, nI_sb, nI_add, pk_mul]; (with_reducible refine vp_in_nI ?_ ?_) <;> first | omega | decide))); (conv => whnf))
              | (refine And.intro (by first | with_reducible assumption | exact (show cL _ _ = _ from rfl) | decide) ?_; (conv => whnf))
              | ((with_reducible refine @And.intro (_ = _) _ ?_ ?_); (· rfl); (conv => whnf))
              | ((with_reducible refine @And.intro (@LE.le Nat _ _ _) _ ?_ ?_); (· (first | exact Nat.zero_le _ | exact Nat.le_of_ble_eq_true rfl | omega)); (conv => whnf))
              | ((with_reducible refine @And.intro (@LT.lt Nat _ _ _) _ ?_ ?_); (· omega); (conv => whnf))
              | ((with_reducible refine @And.intro (∃ _, _ = _) _ ?_ ?_); (· exact ⟨_, rfl⟩); (conv => whnf))
              | ((with_reducible refine @And.intro (_ ∨ _) _ ?_ ?_); (· (first | exact Or.inl rfl | exact Or.inr rfl | exact t_b01 _ | assumption)); (conv => whnf))
              | ((with_reducible refine @And.intro (¬ (_ = _)) _ ?_ ?_); (· first | assumption | (with_reducible assumption)); (conv => whnf))
              | (refine hX _ _ _ _ _ _ ?_; (conv => whnf); fail_if_success show False)
              | (rw [c_si]; (conv => whnf))
              | (refine ⟨_, rfl, ?_⟩; (conv => whnf))
              | (refine ⟨_, _, rfl, ?_⟩; (conv => whnf))
              | (refine ⟨_, _, _, rfl, ?_⟩; (conv => whnf))
              | (refine ⟨_, _, _, _, rfl, ?_⟩; (conv => whnf))
              | (refine And.intro (fun c => ?_) (fun c => ?_) <;> (first | (exact absurd c (by decide +kernel)) | (exact absurd c (by assumption)) | (exact False.elim (c (by assumption))) | (conv => whnf)))
              | fail)
            refine c_ask hQ hg hJ ?_
            rw [eJ]
            rfl
          · have d2 : ¬ J 1 12 ≤ nI k := by
              rw [hmJ, nI_leI (by omega) (by omega)]
              omega
            have hk8 : k < 8 := by omega
            have hkI : k < c_p I := by omega
            have hm9 : t_m9 (J (10 * 7 + 1) k) := by
              have := (tJ.2.2.2.1 k).1
              rw [cA_gw (by omega)] at this
              exact this
            have nx := ih (k + 1) (by omega) (by omega)
            clear ih
            have el : g_lack (cK I L) (cA J 7) k = t_more (nI 0) (J 36 k - t_ones (J (10 * 7 + 1) k)) := by
              unfold g_lack
              rw [cA_gw (by omega), cK_needs hkI, hJ.kp.f (b := 36) (by omega)]
            have es : g_lackN (cK I L) (cA J 7) (k + 1) = g_lackN (cK I L) (cA J 7) k + (if g_lack (cK I L) (cA J 7) k ≤ nI 0 then nI 0 else nI 1) := rfl
            rw [es, el] at nx
            by_cases f : t_more (nI 0) (J 36 k - t_ones (J (10 * 7 + 1) k)) ≤ nI 0
            · have d3 : t_more (nI 0) (J 36 k - t_ones (J (10 * 7 + 1) k)) ≤ 0 := f
              rw [if_pos f] at nx
              refine hG _ _ _ _ _ _ ?_
              (conv => whnf)
              repeat' (first
                | ((with_reducible refine @And.intro (vp_in _ _) _ ?_ ?_); (· (first | with_reducible assumption | ((with_reducible refine t_vin ?_); decide) | ((with_reducible refine vp_in_nI ?_ ?_) <;> first | omega | decide) | (simp (disch := omega) only [xl_n, xl_m, nI_dec, nI_sb, nI_add, pk_mul]; (with_reducible refine vp_in_nI ?_ ?_) <;> first | omega | decide))); (conv => whnf))
                | (refine And.intro (by first | with_reducible assumption | exact (show cL _ _ = _ from rfl) | decide) ?_; (conv => whnf))
                | ((with_reducible refine @And.intro (_ = _) _ ?_ ?_); (· rfl); (conv => whnf))
                | ((with_reducible refine @And.intro (@LE.le Nat _ _ _) _ ?_ ?_); (· (first | exact Nat.zero_le _ | exact Nat.le_of_ble_eq_true rfl | omega)); (conv => whnf))
                | ((with_reducible refine @And.intro (@LT.lt Nat _ _ _) _ ?_ ?_); (· omega); (conv => whnf))
                | ((with_reducible refine @And.intro (∃ _, _ = _) _ ?_ ?_); (· exact ⟨_, rfl⟩); (conv => whnf))
                | ((with_reducible refine @And.intro (_ ∨ _) _ ?_ ?_); (· (first | exact Or.inl rfl | exact Or.inr rfl | exact t_b01 _ | assumption)); (conv => whnf))
                | ((with_reducible refine @And.intro (¬ (_ = _)) _ ?_ ?_); (· first | assumption | (with_reducible assumption)); (conv => whnf))
                | (refine hX _ _ _ _ _ _ ?_; (conv => whnf); fail_if_success show False)
                | (rw [c_si]; (conv => whnf))
                | (refine ⟨_, rfl, ?_⟩; (conv => whnf))
                | (refine ⟨_, _, rfl, ?_⟩; (conv => whnf))
                | (refine ⟨_, _, _, rfl, ?_⟩; (conv => whnf))
                | (refine ⟨_, _, _, _, rfl, ?_⟩; (conv => whnf))
                | (refine ⟨7,k,rfl,h7,hk8,hm9,?_⟩; (conv => whnf))
                | (rw [c_tl h7]; (conv => whnf))
                | (rw [c_t7 h7]; (conv => whnf))
                | (rw [c_tf h7 (by decide)]; (conv => whnf))
                | (rw [c_t0 h7]; (conv => whnf))
                | (rw [c_t1 h7]; (conv => whnf))
                | (rw [c_t2 h7]; (conv => whnf))
                | (rw [c_t3 h7]; (conv => whnf))
                | (rw [c_t4 h7]; (conv => whnf))
                | (rw [c_t5 h7]; (conv => whnf))
                | (refine And.intro ⟨_, c_tl h7⟩ ?_; (conv => whnf))
                | (refine And.intro (fun c => ?_) (fun c => ?_) <;> (first | (exact absurd c (by decide +kernel)) | (exact absurd c (by assumption)) | (exact False.elim (c (by assumption))) | (conv => whnf)))
                | fail)
              clear hX hG hQ
              simp (disch := omega) only [xl_n, xl_m, nI_dec, nI_sb, xl_0, xl_1, cW_i, Nat.add_zero, Nat.reduceAdd, Nat.reduceMul, t_bn0, t_bn1, Classical.not_not, t_lt, nI_add, nI_1, pk_mul, nI_clamp, c_si, nI_eq, nI_leI, nM_ne, nM_ne, xm_set, xm_lv0, xm_psh] at *
              exact nx
            · have d3 : ¬ t_more (nI 0) (J 36 k - t_ones (J (10 * 7 + 1) k)) ≤ 0 := f
              rw [if_neg f] at nx
              refine hG _ _ _ _ _ _ ?_
              (conv => whnf)
              repeat' (first
                | ((with_reducible refine @And.intro (vp_in _ _) _ ?_ ?_); (· (first | with_reducible assumption | ((with_reducible refine t_vin ?_); decide) | ((with_reducible refine vp_in_nI ?_ ?_) <;> first | omega | decide) | (simp (disch := omega) only [xl_n, xl_m, nI_dec, nI_sb, nI_add, pk_mul]; (with_reducible refine vp_in_nI ?_ ?_) <;> first | omega | decide))); (conv => whnf))
                | (refine And.intro (by first | with_reducible assumption | exact (show cL _ _ = _ from rfl) | decide) ?_; (conv => whnf))
                | ((with_reducible refine @And.intro (_ = _) _ ?_ ?_); (· rfl); (conv => whnf))
                | ((with_reducible refine @And.intro (@LE.le Nat _ _ _) _ ?_ ?_); (· (first | exact Nat.zero_le _ | exact Nat.le_of_ble_eq_true rfl | omega)); (conv => whnf))
                | ((with_reducible refine @And.intro (@LT.lt Nat _ _ _) _ ?_ ?_); (· omega); (conv => whnf))
                | ((with_reducible refine @And.intro (∃ _, _ = _) _ ?_ ?_); (· exact ⟨_, rfl⟩); (conv => whnf))
                | ((with_reducible refine @And.intro (_ ∨ _) _ ?_ ?_); (· (first | exact Or.inl rfl | exact Or.inr rfl | exact t_b01 _ | assumption)); (conv => whnf))
                | ((with_reducible refine @And.intro (¬ (_ = _)) _ ?_ ?_); (· first | assumption | (with_reducible assumption)); (conv => whnf))
                | (refine hX _ _ _ _ _ _ ?_; (conv => whnf); fail_if_success show False)
                | (rw [c_si]; (conv => whnf))
                | (refine ⟨_, rfl, ?_⟩; (conv => whnf))
                | (refine ⟨_, _, rfl, ?_⟩; (conv => whnf))
                | (refine ⟨_, _, _, rfl, ?_⟩; (conv => whnf))
                | (refine ⟨_, _, _, _, rfl, ?_⟩; (conv => whnf))
                | (refine ⟨7,k,rfl,h7,hk8,hm9,?_⟩; (conv => whnf))
                | (rw [c_tl h7]; (conv => whnf))
                | (rw [c_t7 h7]; (conv => whnf))
                | (rw [c_tf h7 (by decide)]; (conv => whnf))
                | (rw [c_t0 h7]; (conv => whnf))
                | (rw [c_t1 h7]; (conv => whnf))
                | (rw [c_t2 h7]; (conv => whnf))
                | (rw [c_t3 h7]; (conv => whnf))
                | (rw [c_t4 h7]; (conv => whnf))
                | (rw [c_t5 h7]; (conv => whnf))
                | (refine And.intro ⟨_, c_tl h7⟩ ?_; (conv => whnf))
                | (refine And.intro (fun c => ?_) (fun c => ?_) <;> (first | (exact absurd c (by decide +kernel)) | (exact absurd c (by assumption)) | (exact False.elim (c (by assumption))) | (conv => whnf)))
                | fail)
              clear hX hG hQ
              simp (disch := omega) only [xl_n, xl_m, nI_dec, nI_sb, xl_0, xl_1, cW_i, Nat.add_zero, Nat.reduceAdd, Nat.reduceMul, t_bn0, t_bn1, Classical.not_not, t_lt, nI_add, nI_1, pk_mul, nI_clamp, c_si, nI_eq, nI_leI, nM_ne, nM_ne, xm_set, xm_lv0, xm_psh] at *
              exact nx
        have fin := loop 0 (Nat.zero_le _)
        clear loop
        (conv => whnf)
        repeat' (first
          | ((with_reducible refine @And.intro (vp_in _ _) _ ?_ ?_); (· (first | with_reducible assumption | ((with_reducible refine t_vin ?_); decide) | ((with_reducible refine vp_in_nI ?_ ?_) <;> first | omega | decide) | (simp (disch := omega) only [xl_n, xl_m, nI_dec, nI_sb, nI_add, pk_mul]; (with_reducible refine vp_in_nI ?_ ?_) <;> first | omega | decide))); (conv => whnf))
          | (refine And.intro (by first | with_reducible assumption | exact (show cL _ _ = _ from rfl) | decide) ?_; (conv => whnf))
          | ((with_reducible refine @And.intro (_ = _) _ ?_ ?_); (· rfl); (conv => whnf))
          | ((with_reducible refine @And.intro (@LE.le Nat _ _ _) _ ?_ ?_); (· (first | exact Nat.zero_le _ | exact Nat.le_of_ble_eq_true rfl | omega)); (conv => whnf))
          | ((with_reducible refine @And.intro (@LT.lt Nat _ _ _) _ ?_ ?_); (· omega); (conv => whnf))
          | ((with_reducible refine @And.intro (∃ _, _ = _) _ ?_ ?_); (· exact ⟨_, rfl⟩); (conv => whnf))
          | ((with_reducible refine @And.intro (_ ∨ _) _ ?_ ?_); (· (first | exact Or.inl rfl | exact Or.inr rfl | exact t_b01 _ | assumption)); (conv => whnf))
          | ((with_reducible refine @And.intro (¬ (_ = _)) _ ?_ ?_); (· first | assumption | (with_reducible assumption)); (conv => whnf))
          | (refine hX _ _ _ _ _ _ ?_; (conv => whnf); fail_if_success show False)
          | (rw [c_si]; (conv => whnf))
          | (refine ⟨_, rfl, ?_⟩; (conv => whnf))
          | (refine ⟨_, _, rfl, ?_⟩; (conv => whnf))
          | (refine ⟨_, _, _, rfl, ?_⟩; (conv => whnf))
          | (refine ⟨_, _, _, _, rfl, ?_⟩; (conv => whnf))
          | (refine And.intro (fun c => ?_) (fun c => ?_) <;> (first | (exact absurd c (by decide +kernel)) | (conv => whnf)))
          | fail)
        exact fin
      · repeat' (first
          | ((with_reducible refine @And.intro (vp_in _ _) _ ?_ ?_); (· (first | with_reducible assumption | ((with_reducible refine t_vin ?_); decide) | ((with_reducible refine vp_in_nI ?_ ?_) <;> first | omega | decide) | (simp (disch := omega) only [xl_n, xl_m, nI_dec, nI_sb, nI_add, pk_mul]; (with_reducible refine vp_in_nI ?_ ?_) <;> first | omega | decide))); (conv => whnf))
          | (refine And.intro (by first | with_reducible assumption | exact (show cL _ _ = _ from rfl) | decide) ?_; (conv => whnf))
          | ((with_reducible refine @And.intro (_ = _) _ ?_ ?_); (· rfl); (conv => whnf))
          | ((with_reducible refine @And.intro (@LE.le Nat _ _ _) _ ?_ ?_); (· (first | exact Nat.zero_le _ | exact Nat.le_of_ble_eq_true rfl | omega)); (conv => whnf))
          | ((with_reducible refine @And.intro (@LT.lt Nat _ _ _) _ ?_ ?_); (· omega); (conv => whnf))
          | ((with_reducible refine @And.intro (∃ _, _ = _) _ ?_ ?_); (· exact ⟨_, rfl⟩); (conv => whnf))
          | ((with_reducible refine @And.intro (_ ∨ _) _ ?_ ?_); (· (first | exact Or.inl rfl | exact Or.inr rfl | exact t_b01 _ | assumption)); (conv => whnf))
          | ((with_reducible refine @And.intro (¬ (_ = _)) _ ?_ ?_); (· first | assumption | (with_reducible assumption)); (conv => whnf))
          | (refine hX _ _ _ _ _ _ ?_; (conv => whnf); fail_if_success show False)
          | (rw [c_si]; (conv => whnf))
          | (refine ⟨_, rfl, ?_⟩; (conv => whnf))
          | (refine ⟨_, _, rfl, ?_⟩; (conv => whnf))
          | (refine ⟨_, _, _, rfl, ?_⟩; (conv => whnf))
          | (refine ⟨_, _, _, _, rfl, ?_⟩; (conv => whnf))
          | (refine ⟨q,nI n,rfl,?_⟩; (conv => whnf))
          | (refine ⟨true,rfl,?_⟩; (conv => whnf))
          | (refine ⟨seed,q,n,L,rfl,hg,hk0,hn40,?_⟩; (conv => whnf))
          | (refine And.intro (fun c => ?_) (fun c => ?_) <;> (first | (exact absurd c (by decide +kernel)) | (exact absurd c (by assumption)) | (exact False.elim (c (by assumption))) | (conv => whnf)))
          | fail)
        intro J hJ tJ eJ
        obtain ⟨gJ, eG, okJ, iJ, eal⟩ := after J hJ tJ eJ
        have kJ : g_ok (cG P J L) := by rw [eG]; exact hk0
        (conv => whnf)
        repeat' (first
          | ((with_reducible refine @And.intro (vp_in _ _) _ ?_ ?_); (· (first | with_reducible assumption | ((with_reducible refine t_vin ?_); decide) | ((with_reducible refine vp_in_nI ?_ ?_) <;> first | omega | decide) | (simp (disch := omega) only [xl_n, xl_m, nI_dec, nI_sb, nI_add, pk_mul]; (with_reducible refine vp_in_nI ?_ ?_) <;> first | omega | decide))); (conv => whnf))
          | (refine And.intro (by first | with_reducible assumption | exact (show cL _ _ = _ from rfl) | decide) ?_; (conv => whnf))
          | ((with_reducible refine @And.intro (_ = _) _ ?_ ?_); (· rfl); (conv => whnf))
          | ((with_reducible refine @And.intro (@LE.le Nat _ _ _) _ ?_ ?_); (· (first | exact Nat.zero_le _ | exact Nat.le_of_ble_eq_true rfl | omega)); (conv => whnf))
          | ((with_reducible refine @And.intro (@LT.lt Nat _ _ _) _ ?_ ?_); (· omega); (conv => whnf))
          | ((with_reducible refine @And.intro (∃ _, _ = _) _ ?_ ?_); (· exact ⟨_, rfl⟩); (conv => whnf))
          | ((with_reducible refine @And.intro (_ ∨ _) _ ?_ ?_); (· (first | exact Or.inl rfl | exact Or.inr rfl | exact t_b01 _ | assumption)); (conv => whnf))
          | ((with_reducible refine @And.intro (¬ (_ = _)) _ ?_ ?_); (· first | assumption | (with_reducible assumption)); (conv => whnf))
          | (refine hX _ _ _ _ _ _ ?_; (conv => whnf); fail_if_success show False)
          | (rw [c_si]; (conv => whnf))
          | (refine ⟨_, rfl, ?_⟩; (conv => whnf))
          | (refine ⟨_, _, rfl, ?_⟩; (conv => whnf))
          | (refine ⟨_, _, _, rfl, ?_⟩; (conv => whnf))
          | (refine ⟨_, _, _, _, rfl, ?_⟩; (conv => whnf))
          | (refine ⟨7,rfl,h7,okJ,iJ,?_⟩; (conv => whnf))
          | (refine And.intro (fun c => ?_) (fun c => ?_) <;> (first | (exact absurd c (by decide +kernel)) | (conv => whnf)))
          | fail)
        refine ⟨7, L, _, rfl, h7, gJ, kJ, c_al_a okJ.2.1, fun K hK => ?_⟩
        rw [eal, eG]
        have m9 : t_m9 (t_or P.1 fun a => g_is (g_casts (cG P I L) (cA J 7) (g_alive (cK I L) (cA J 7)) a)) := t_or_m9 (by omega)
        (conv => whnf)
        repeat' (first
          | ((with_reducible refine @And.intro (vp_in _ _) _ ?_ ?_); (· (first | with_reducible assumption | ((with_reducible refine t_vin ?_); decide) | ((with_reducible refine vp_in_nI ?_ ?_) <;> first | omega | decide) | (simp (disch := omega) only [xl_n, xl_m, nI_dec, nI_sb, nI_add, pk_mul]; (with_reducible refine vp_in_nI ?_ ?_) <;> first | omega | decide))); (conv => whnf))
          | (refine And.intro (by first | with_reducible assumption | exact (show cL _ _ = _ from rfl) | decide) ?_; (conv => whnf))
          | ((with_reducible refine @And.intro (_ = _) _ ?_ ?_); (· rfl); (conv => whnf))
          | ((with_reducible refine @And.intro (@LE.le Nat _ _ _) _ ?_ ?_); (· (first | exact Nat.zero_le _ | exact Nat.le_of_ble_eq_true rfl | omega)); (conv => whnf))
          | ((with_reducible refine @And.intro (@LT.lt Nat _ _ _) _ ?_ ?_); (· omega); (conv => whnf))
          | ((with_reducible refine @And.intro (∃ _, _ = _) _ ?_ ?_); (· exact ⟨_, rfl⟩); (conv => whnf))
          | ((with_reducible refine @And.intro (_ ∨ _) _ ?_ ?_); (· (first | exact Or.inl rfl | exact Or.inr rfl | exact t_b01 _ | assumption)); (conv => whnf))
          | ((with_reducible refine @And.intro (¬ (_ = _)) _ ?_ ?_); (· first | assumption | (with_reducible assumption)); (conv => whnf))
          | (refine hX _ _ _ _ _ _ ?_; (conv => whnf); fail_if_success show False)
          | (rw [c_si]; (conv => whnf))
          | (refine ⟨_, rfl, ?_⟩; (conv => whnf))
          | (refine ⟨_, _, rfl, ?_⟩; (conv => whnf))
          | (refine ⟨_, _, _, rfl, ?_⟩; (conv => whnf))
          | (refine ⟨_, _, _, _, rfl, ?_⟩; (conv => whnf))
          | (refine ⟨_,rfl,m9,?_⟩; (conv => whnf))
          | (refine And.intro (fun c => ?_) (fun c => ?_) <;> (first | (exact absurd c (by decide +kernel)) | (conv => whnf)))
          | fail)
        refine c_ask hQ hg (hJ.tr hK.sp) ?_
        rw [t_ones_or (by omega), eJ]
        rfl
      · repeat' (first
          | ((with_reducible refine @And.intro (vp_in _ _) _ ?_ ?_); (· (first | with_reducible assumption | ((with_reducible refine t_vin ?_); decide) | ((with_reducible refine vp_in_nI ?_ ?_) <;> first | omega | decide) | (simp (disch := omega) only [xl_n, xl_m, nI_dec, nI_sb, nI_add, pk_mul]; (with_reducible refine vp_in_nI ?_ ?_) <;> first | omega | decide))); (conv => whnf))
          | (refine And.intro (by first | with_reducible assumption | exact (show cL _ _ = _ from rfl) | decide) ?_; (conv => whnf))
          | ((with_reducible refine @And.intro (_ = _) _ ?_ ?_); (· rfl); (conv => whnf))
          | ((with_reducible refine @And.intro (@LE.le Nat _ _ _) _ ?_ ?_); (· (first | exact Nat.zero_le _ | exact Nat.le_of_ble_eq_true rfl | omega)); (conv => whnf))
          | ((with_reducible refine @And.intro (@LT.lt Nat _ _ _) _ ?_ ?_); (· omega); (conv => whnf))
          | ((with_reducible refine @And.intro (∃ _, _ = _) _ ?_ ?_); (· exact ⟨_, rfl⟩); (conv => whnf))
          | ((with_reducible refine @And.intro (_ ∨ _) _ ?_ ?_); (· (first | exact Or.inl rfl | exact Or.inr rfl | exact t_b01 _ | assumption)); (conv => whnf))
          | ((with_reducible refine @And.intro (¬ (_ = _)) _ ?_ ?_); (· first | assumption | (with_reducible assumption)); (conv => whnf))
          | (refine hX _ _ _ _ _ _ ?_; (conv => whnf); fail_if_success show False)
          | (rw [c_si]; (conv => whnf))
          | (refine ⟨_, rfl, ?_⟩; (conv => whnf))
          | (refine ⟨_, _, rfl, ?_⟩; (conv => whnf))
          | (refine ⟨_, _, _, rfl, ?_⟩; (conv => whnf))
          | (refine ⟨_, _, _, _, rfl, ?_⟩; (conv => whnf))
          | (refine ⟨q,nI n,rfl,?_⟩; (conv => whnf))
          | (refine ⟨true,rfl,?_⟩; (conv => whnf))
          | (refine ⟨seed,q,n,L,rfl,hg,hk0,hn40,?_⟩; (conv => whnf))
          | (refine And.intro (fun c => ?_) (fun c => ?_) <;> (first | (exact absurd c (by decide +kernel)) | (exact absurd c (by assumption)) | (exact False.elim (c (by assumption))) | (conv => whnf)))
          | fail)
        intro J hJ tJ eJ
        obtain ⟨gJ, eG, okJ, iJ, eal⟩ := after J hJ tJ eJ
        (conv => whnf)
        repeat' (first
          | ((with_reducible refine @And.intro (vp_in _ _) _ ?_ ?_); (· (first | with_reducible assumption | ((with_reducible refine t_vin ?_); decide) | ((with_reducible refine vp_in_nI ?_ ?_) <;> first | omega | decide) | (simp (disch := omega) only [xl_n, xl_m, nI_dec, nI_sb, nI_add, pk_mul]; (with_reducible refine vp_in_nI ?_ ?_) <;> first | omega | decide))); (conv => whnf))
          | (refine And.intro (by first | with_reducible assumption | exact (show cL _ _ = _ from rfl) | decide) ?_; (conv => whnf))
          | ((with_reducible refine @And.intro (_ = _) _ ?_ ?_); (· rfl); (conv => whnf))
          | ((with_reducible refine @And.intro (@LE.le Nat _ _ _) _ ?_ ?_); (· (first | exact Nat.zero_le _ | exact Nat.le_of_ble_eq_true rfl | omega)); (conv => whnf))
          | ((with_reducible refine @And.intro (@LT.lt Nat _ _ _) _ ?_ ?_); (· omega); (conv => whnf))
          | ((with_reducible refine @And.intro (∃ _, _ = _) _ ?_ ?_); (· exact ⟨_, rfl⟩); (conv => whnf))
          | ((with_reducible refine @And.intro (_ ∨ _) _ ?_ ?_); (· (first | exact Or.inl rfl | exact Or.inr rfl | exact t_b01 _ | assumption)); (conv => whnf))
          | ((with_reducible refine @And.intro (¬ (_ = _)) _ ?_ ?_); (· first | assumption | (with_reducible assumption)); (conv => whnf))
          | (refine hX _ _ _ _ _ _ ?_; (conv => whnf); fail_if_success show False)
          | (rw [c_si]; (conv => whnf))
          | (refine ⟨_, rfl, ?_⟩; (conv => whnf))
          | (refine ⟨_, _, rfl, ?_⟩; (conv => whnf))
          | (refine ⟨_, _, _, rfl, ?_⟩; (conv => whnf))
          | (refine ⟨_, _, _, _, rfl, ?_⟩; (conv => whnf))
          | (refine ⟨7,L,rfl,h7,okJ,?_⟩; (conv => whnf))
          | (refine And.intro (fun c => ?_) (fun c => ?_) <;> (first | (exact absurd c (by decide +kernel)) | (conv => whnf)))
          | fail)
        refine c_ask hQ hg hJ ?_
        rw [eJ, hJ.kp.K hok hg.2.2.2.2.1]
        rfl
    all_goals
      have ef : (t_in q (nI 0) (nI 16) && t_in n (nI 1) (nI 40) && t_in what (nI 0) (nI 3)) = false := by rw [e1, Bool.and_false]
      repeat' (first
        | ((with_reducible refine @And.intro (vp_in _ _) _ ?_ ?_); (· (first | with_reducible assumption | ((with_reducible refine t_vin ?_); decide) | ((with_reducible refine vp_in_nI ?_ ?_) <;> first | omega | decide) | (simp (disch := omega) only [xl_n, xl_m, nI_dec, nI_sb, nI_add, pk_mul]; (with_reducible refine vp_in_nI ?_ ?_) <;> first | omega | decide))); (conv => whnf))
        | (refine And.intro (by first | with_reducible assumption | exact (show cL _ _ = _ from rfl) | decide) ?_; (conv => whnf))
        | ((with_reducible refine @And.intro (_ = _) _ ?_ ?_); (· rfl); (conv => whnf))
        | ((with_reducible refine @And.intro (@LE.le Nat _ _ _) _ ?_ ?_); (· (first | exact Nat.zero_le _ | exact Nat.le_of_ble_eq_true rfl | omega)); (conv => whnf))
        | ((with_reducible refine @And.intro (@LT.lt Nat _ _ _) _ ?_ ?_); (· omega); (conv => whnf))
        | ((with_reducible refine @And.intro (∃ _, _ = _) _ ?_ ?_); (· exact ⟨_, rfl⟩); (conv => whnf))
        | ((with_reducible refine @And.intro (_ ∨ _) _ ?_ ?_); (· (first | exact Or.inl rfl | exact Or.inr rfl | exact t_b01 _ | assumption)); (conv => whnf))
        | ((with_reducible refine @And.intro (¬ (_ = _)) _ ?_ ?_); (· first | assumption | (with_reducible assumption)); (conv => whnf))
        | (refine hX _ _ _ _ _ _ ?_; (conv => whnf); fail_if_success show False)
        | (rw [c_si]; (conv => whnf))
        | (refine ⟨_, rfl, ?_⟩; (conv => whnf))
        | (refine ⟨_, _, rfl, ?_⟩; (conv => whnf))
        | (refine ⟨_, _, _, rfl, ?_⟩; (conv => whnf))
        | (refine ⟨_, _, _, _, rfl, ?_⟩; (conv => whnf))
        | (refine ⟨q,n,rfl,?_⟩; (conv => whnf))
        | (refine ⟨true,rfl,?_⟩; (conv => whnf))
        | (refine ⟨false,rfl,?_⟩; (conv => whnf))
        | (refine And.intro (fun c => ?_) (fun c => ?_) <;> (first | (exact absurd c (by decide +kernel)) | (exact absurd c (by assumption)) | (exact False.elim (c (by assumption))) | (conv => whnf)))
        | fail)
      intro x hx
      exact c_ref1 hQ hg ef hx n1_0
theorem ct_X1_fates : xm_Ct cI yX1_fates (ws_ yX1_fates cX1_fates 8 (some .int)) 164 1 6 S_X1_fates := xm_enter (rt := 0) (init := false) (by decide +kernel) rfl (fun h => by cases h) (Or.inl ⟨rfl, rfl⟩) (oX1_fates) body_X1_fates
theorem cv_X1_fates {own : String} {cc : ByteArray} {fr pc idx : Nat} (hdg : decode cc pc = .ok (.invokevirtual idx, 3)) (hl : xm_ml own idx yX1_fates) (hfr : 164 < fr) : xm_CallOK cI own cc fr pc (pc + 3) 5 1 6 (xm_this 0 S_X1_fates) := xm_callV 0 cI_good (ct_X1_fates) hdg hl q1899 q1900 q116 q1901 rfl rfl (by decide +kernel) hfr (by decide)
theorem g_spanL_s {G : gG} {seed q : Int32} {n k : Nat} : g_spanL G seed q n (k + 1) = if g_spanL G seed q n k = nM then g_spanN G seed q n k else t_less (g_spanL G seed q n k) (g_spanN G seed q n k) := rfl
theorem g_spanM_s {G : gG} {seed q : Int32} {n k : Nat} : g_spanM G seed q n (k + 1) = t_more (g_spanM G seed q n k) (g_spanN G seed q n k) := rfl
theorem g_spanI_s {G : gG} {seed q : Int32} {n h k : Nat} : g_spanI G seed q n h (k + 1) = g_spanI G seed q n h k + if g_al (gGK G) (g_fated G (seed + nI k) q n) h = true then nI 1 else nI 0 := rfl
theorem t_has_1 {x : Int32} {k : Nat} : (x >>> (nI k &&& 31)) &&& nI 1 = if t_has x k = true then nI 1 else nI 0 := by
  rcases t_and1 (x >>> (nI k &&& 31)) with h | h
  · rw [h, t_has_f h, if_neg (by decide)]
  · rw [h, show t_has x k = true from decide_eq_true h, if_pos rfl]
theorem c_there_cases {P : cP} {I : tI} {L : List lC} {v : Int32} (hok : c_ok I) (h : g_isH (cG P I L) v = false) : v < 0 ∨ (¬ v < 0 ∧ I 1 11 ≤ v) := by
  by_cases q : v < 0
  · exact Or.inl q
  · refine Or.inr ⟨q, ?_⟩
    obtain ⟨n, hn, rfl⟩ := nI_of q
    have h9 := hok.2.1
    rw [hok.1, nI_leI (by omega) hn]
    rcases Nat.lt_or_ge n (c_h I) with z | z
    · have : g_isH (cG P I L) (nI n) = true := t_in_mk (n := c_h I) (by omega) z rfl
      rw [this] at h
      cases h
    · exact z
abbrev bX1_span_0 : List xE := [(.aload_n 0, 1, 0, 0, 0), (.iload_n 2, 2, 0, 0, 0), (.iconst 1, 3, 0, 0, 0), (.if_icmp .lt 50, 6, 0, 53, 0), (.iload_n 2, 7, 0, 0, 0), (.bipush 20, 9, 0, 0, 0), (.if_icmp .gt 44, 12, 0, 53, 0), (.iload_n 3, 13, 0, 0, 0), (.iload 4, 15, 0, 0, 0), (.invokestatic 405, 18, 0, 0, 9), (.ifCond .eq 35, 21, 0, 53, 0), (.iload 5, 23, 0, 0, 0), (.ifCond .lt 30, 26, 0, 53, 0), (.iload 5, 28, 0, 0, 0), (.iconst 2, 29, 0, 0, 0), (.if_icmp .gt 24, 32, 0, 53, 0), (.iload 6, 34, 0, 0, 0), (.ifCond .lt 19, 37, 0, 53, 0), (.iload 6, 39, 0, 0, 0), (.aload_n 0, 40, 0, 0, 0), (.getfield 31, 43, 0, 0, 1), (.getfield 126, 46, 1, 11, 0), (.if_icmp .ge 7, 49, 0, 53, 0), (.iconst 1, 50, 0, 0, 0), (.goto 4, 53, 0, 54, 0)]
abbrev bX1_span_53 : List xE := [(.iconst 0, 54, 0, 0, 0)]
abbrev bX1_span_54 : List xE := [(.invokevirtual 160, 57, 0, 1, 9), (.iconst (-1), 58, 0, 0, 0), (.istore 7, 60, 0, 0, 0), (.iconst 0, 61, 0, 0, 0), (.istore 8, 63, 0, 0, 0), (.iconst 0, 64, 0, 0, 0), (.istore 9, 66, 0, 0, 0), (.iconst 0, 67, 0, 0, 0), (.istore 10, 69, 0, 0, 0)]
abbrev bX1_span_69 : List xE := [(.iload 10, 71, 0, 0, 0), (.iload_n 2, 72, 0, 0, 0), (.if_icmp .ge 73, 75, 0, 145, 0), (.aload_n 0, 76, 0, 0, 0), (.iload_n 1, 77, 0, 0, 0), (.iload 10, 79, 0, 0, 0), (.iadd, 80, 0, 0, 0), (.iload_n 3, 81, 0, 0, 0), (.iload 4, 83, 0, 0, 0), (.invokevirtual 408, 86, 0, 2, 9), (.invokevirtual 204, 89, 0, 3, 9), (.istore 11, 91, 0, 0, 0), (.iload 11, 93, 0, 0, 0), (.invokestatic 207, 96, 0, 4, 9), (.istore 12, 98, 0, 0, 0), (.iload 7, 100, 0, 0, 0), (.iconst (-1), 101, 0, 0, 0), (.if_icmp .ne 8, 104, 0, 109, 0), (.iload 12, 106, 0, 0, 0), (.goto 10, 109, 0, 116, 0)]
abbrev bX1_span_109 : List xE := [(.iload 7, 111, 0, 0, 0), (.iload 12, 113, 0, 0, 0), (.invokestatic 288, 116, 0, 5, 9)]
abbrev bX1_span_116 : List xE := [(.istore 7, 118, 0, 0, 0), (.iload 8, 120, 0, 0, 0), (.iload 12, 122, 0, 0, 0), (.invokestatic 232, 125, 0, 6, 9), (.istore 8, 127, 0, 0, 0), (.iload 9, 129, 0, 0, 0), (.iload 11, 131, 0, 0, 0), (.iload 6, 133, 0, 0, 0), (.ishr, 134, 0, 0, 0), (.iconst 1, 135, 0, 0, 0), (.iand, 136, 0, 0, 0), (.iadd, 137, 0, 0, 0), (.istore 9, 139, 0, 0, 0), (.iinc 10 1, 142, 0, 0, 0), (.goto (-73), 145, 0, 69, 0)]
abbrev bX1_span_145 : List xE := [(.iload 5, 147, 0, 0, 0), (.ifCond .ne 8, 150, 0, 155, 0), (.iload 7, 152, 0, 0, 0), (.goto 16, 155, 0, 168, 0)]
abbrev bX1_span_155 : List xE := [(.iload 5, 157, 0, 0, 0), (.iconst 1, 158, 0, 0, 0), (.if_icmp .ne 8, 161, 0, 166, 0), (.iload 8, 163, 0, 0, 0), (.goto 5, 166, 0, 168, 0)]
abbrev bX1_span_166 : List xE := [(.iload 9, 168, 0, 0, 0)]
abbrev bX1_span_168 : List xE := [(.ireturn, 169, 0, 0, 0)]
abbrev kX1_span : List (Nat × List xE) := [(0, bX1_span_0), (53, bX1_span_53), (54, bX1_span_54), (69, bX1_span_69), (109, bX1_span_109), (116, bX1_span_116), (145, bX1_span_145), (155, bX1_span_155), (166, bX1_span_166), (168, bX1_span_168)]
abbrev lX1_span : List (Nat × Nat × Nat × xS) := [(2, 0, 0, S_X1_isFate), (2, 1, 6, xm_this 0 S_X1_need), (4, 0, 0, xm_this 0 S_X1_fated), (1, 0, 0, xm_this 7 S_X10_alive), (1, 0, 0, S_J16_bitCount), (2, 0, 0, S_J12_min), (2, 0, 0, S_J12_max)]
theorem oX1_span_0  : xm_okb cI RX1 cX1_span false 164 lX1_span bX1_span_0 0 := xo_0 dX1_span_0 rfl trivial (xo_0 dX1_span_1 rfl trivial (xo_0 dX1_span_2 rfl trivial (xo_0 dX1_span_3 rfl rfl (xo_0 dX1_span_6 rfl trivial (xo_0 dX1_span_7 rfl (xo_bipush (by decide +kernel)) (xo_0 dX1_span_9 rfl rfl (xo_0 dX1_span_12 rfl trivial (xo_0 dX1_span_13 rfl trivial (xo_c rfl (cv_X1_isFate dX1_span_15 (Or.inl q1902) (by decide)) (xo_0 dX1_span_18 rfl rfl (xo_0 dX1_span_21 rfl trivial (xo_0 dX1_span_23 rfl rfl (xo_0 dX1_span_26 rfl trivial (xo_0 dX1_span_28 rfl trivial (xo_0 dX1_span_29 rfl rfl (xo_0 dX1_span_32 rfl trivial (xo_0 dX1_span_34 rfl rfl (xo_0 dX1_span_37 rfl trivial (xo_0 dX1_span_39 rfl trivial (xo_1 dX1_span_40 rfl (xm_fg_of (Or.inl q716) (by decide) rfl (by decide) rfl rfl (Or.inl rfl) rfl) (xo_0 dX1_span_43 rfl (xm_fg_of (Or.inr ⟨_, q556⟩) (by decide) rfl (by decide) rfl rfl (Or.inl rfl) rfl) (xo_0 dX1_span_46 rfl rfl (xo_0 dX1_span_49 rfl trivial (xo_0 dX1_span_50 rfl rfl (xo_n)))))))))))))))))))))))))
theorem oX1_span_53  : xm_okb cI RX1 cX1_span false 164 lX1_span bX1_span_53 53 := xo_0 dX1_span_53 rfl trivial (xo_n)
theorem oX1_span_54  : xm_okb cI RX1 cX1_span false 164 lX1_span bX1_span_54 54 := xo_c rfl (cv_X1_need dX1_span_54 (Or.inl q1030) (by decide)) (xo_0 dX1_span_57 rfl trivial (xo_0 dX1_span_58 rfl trivial (xo_0 dX1_span_60 rfl trivial (xo_0 dX1_span_61 rfl trivial (xo_0 dX1_span_63 rfl trivial (xo_0 dX1_span_64 rfl trivial (xo_0 dX1_span_66 rfl trivial (xo_0 dX1_span_67 rfl trivial (xo_n)))))))))
theorem oX1_span_69  : xm_okb cI RX1 cX1_span false 164 lX1_span bX1_span_69 69 := xo_0 dX1_span_69 rfl trivial (xo_0 dX1_span_71 rfl trivial (xo_0 dX1_span_72 rfl rfl (xo_0 dX1_span_75 rfl trivial (xo_0 dX1_span_76 rfl trivial (xo_0 dX1_span_77 rfl trivial (xo_0 dX1_span_79 rfl trivial (xo_0 dX1_span_80 rfl trivial (xo_0 dX1_span_81 rfl trivial (xo_c rfl (cv_X1_fated dX1_span_83 (Or.inl q1905) (by decide)) (xo_c rfl (cv_X10_alive dX1_span_86 (Or.inl q802) (by decide)) (xo_0 dX1_span_89 rfl trivial (xo_0 dX1_span_91 rfl trivial (xo_c rfl (cv_J16_bitCount dX1_span_93 (Or.inl q846) (by decide)) (xo_0 dX1_span_96 rfl trivial (xo_0 dX1_span_98 rfl trivial (xo_0 dX1_span_100 rfl trivial (xo_0 dX1_span_101 rfl rfl (xo_0 dX1_span_104 rfl trivial (xo_0 dX1_span_106 rfl rfl (xo_n))))))))))))))))))))
theorem oX1_span_109  : xm_okb cI RX1 cX1_span false 164 lX1_span bX1_span_109 109 := xo_0 dX1_span_109 rfl trivial (xo_0 dX1_span_111 rfl trivial (xo_c rfl (xc_min dX1_span_113 q1652 (by decide)) (xo_n)))
theorem oX1_span_116  : xm_okb cI RX1 cX1_span false 164 lX1_span bX1_span_116 116 := xo_0 dX1_span_116 rfl trivial (xo_0 dX1_span_118 rfl trivial (xo_0 dX1_span_120 rfl trivial (xo_c rfl (xc_max dX1_span_122 q1599 (by decide)) (xo_0 dX1_span_125 rfl trivial (xo_0 dX1_span_127 rfl trivial (xo_0 dX1_span_129 rfl trivial (xo_0 dX1_span_131 rfl trivial (xo_0 dX1_span_133 rfl trivial (xo_0 dX1_span_134 rfl trivial (xo_0 dX1_span_135 rfl trivial (xo_0 dX1_span_136 rfl trivial (xo_0 dX1_span_137 rfl trivial (xo_0 dX1_span_139 rfl trivial (xo_0 dX1_span_142 rfl rfl (xo_n)))))))))))))))
theorem oX1_span_145  : xm_okb cI RX1 cX1_span false 164 lX1_span bX1_span_145 145 := xo_0 dX1_span_145 rfl trivial (xo_0 dX1_span_147 rfl rfl (xo_0 dX1_span_150 rfl trivial (xo_0 dX1_span_152 rfl rfl (xo_n))))
theorem oX1_span_155  : xm_okb cI RX1 cX1_span false 164 lX1_span bX1_span_155 155 := xo_0 dX1_span_155 rfl trivial (xo_0 dX1_span_157 rfl trivial (xo_0 dX1_span_158 rfl rfl (xo_0 dX1_span_161 rfl trivial (xo_0 dX1_span_163 rfl rfl (xo_n)))))
theorem oX1_span_166  : xm_okb cI RX1 cX1_span false 164 lX1_span bX1_span_166 166 := xo_0 dX1_span_166 rfl trivial (xo_n)
theorem oX1_span_168  : xm_okb cI RX1 cX1_span false 164 lX1_span bX1_span_168 168 := xo_0 dX1_span_168 rfl trivial (xo_n)
theorem oX1_span  : ∀ q ∈ kX1_span, xm_okb cI RX1 cX1_span false 164 lX1_span q.2 q.1 := by
  intro q hq
  simp only [List.mem_cons, List.not_mem_nil, or_false] at hq
  rcases hq with rfl | rfl | rfl | rfl | rfl | rfl | rfl | rfl | rfl | rfl
  · exact oX1_span_0  
  · exact oX1_span_53  
  · exact oX1_span_54  
  · exact oX1_span_69  
  · exact oX1_span_109  
  · exact oX1_span_116  
  · exact oX1_span_145  
  · exact oX1_span_155  
  · exact oX1_span_166  
  · exact oX1_span_168  
def S_X1_span : xS := cU fun as P Z I Q QX => ∃ seed many q n what h L, as = [.ref 0, .int seed, .int many, .int q, .int n, .int what, .int h] ∧ c_good P Z I L ∧ g_ok (cG P I L) ∧ c_P P Z L (cG P I L) Q QX (q_span (cG P I L) seed many q n what h)
theorem body_X1_span : xm_Body 13 0 1 6 [] lX1_span kX1_span S_X1_span := by
  intro X avs w Q QX hX0 hS
  have hG := xm_go [] hX0
  have hX := xm_go [69,116] hX0
  clear hX0
  obtain ⟨P, Z, I, rfl, seed, many, q, n, what, h, L, rfl, hg, hk0, hQ⟩ := hS
  have hok := hg.ok
  obtain ⟨hn, h9, hm, h8⟩ := id hok
  have h7 := c_7 (P := P)
  refine ⟨rfl, ?_⟩
  rw [q_span] at hQ
  have bad : (t_in many (nI 1) (nI 20) && t_in q (nI 0) (nI 16) && t_in n (nI 1) (nI 40) && t_in what (nI 0) (nI 2) && g_isH (cG P I L) h) = false → ∀ x, 1000 ≤ x → QX 0 x (cW P Z (xm_u2 I 4 1 (I 4 1 + nI 1))) := fun e x hx => c_ref1 hQ hg e hx n1_0
  rcases c_rc many 1 20 (A := Int32.ofInt 1) (B := Int32.ofInt 20) (by decide +kernel) (by decide +kernel) (by omega) (by omega) with ⟨m, hm1, hm20, rfl, e1⟩ | ⟨e1, h1⟩ | ⟨e1, h1, h2⟩
  · have d1 : ¬ nI m < Int32.ofInt 1 := fun q => by
      have : nI 1 ≤ nI m := (nI_leI (by omega) (by omega)).mpr hm1
      exact absurd this (Int32.not_le.mpr q)
    have d2 : ¬ Int32.ofInt 20 < nI m := fun q => by
      have : nI m ≤ nI 20 := (nI_leI (by omega) (by omega)).mpr hm20
      exact absurd this (Int32.not_le.mpr q)
    cases e0 : t_in q (nI 0) (nI 16) && t_in n (nI 1) (nI 40) with
    | false =>
      have bad := bad (by rw [e1, Bool.true_and, e0]; rfl)
      have d3 : t_b (t_in q (nI 0) (nI 16) && t_in n (nI 1) (nI 40)) = 0 := by rw [e0]; rfl
      clear hQ
      repeat' (first
        | ((with_reducible refine @And.intro (vp_in _ _) _ ?_ ?_); (· (first | with_reducible assumption | ((with_reducible refine t_vin ?_); decide) | ((with_reducible refine vp_in_nI ?_ ?_) <;> first | omega | decide) | (simp (disch := omega) only [xl_n, xl_m, nI_dec, nI_sb, nI_add, pk_mul]; (with_reducible refine vp_in_nI ?_ ?_) <;> first | omega | decide))); (conv => whnf))
        | (refine And.intro (by first | with_reducible assumption | exact (show cL _ _ = _ from rfl) | decide) ?_; (conv => whnf))
        | ((with_reducible refine @And.intro (_ = _) _ ?_ ?_); (· rfl); (conv => whnf))
        | ((with_reducible refine @And.intro (@LE.le Nat _ _ _) _ ?_ ?_); (· (first | exact Nat.zero_le _ | exact Nat.le_of_ble_eq_true rfl | omega)); (conv => whnf))
        | ((with_reducible refine @And.intro (@LT.lt Nat _ _ _) _ ?_ ?_); (· omega); (conv => whnf))
        | ((with_reducible refine @And.intro (∃ _, _ = _) _ ?_ ?_); (· exact ⟨_, rfl⟩); (conv => whnf))
        | ((with_reducible refine @And.intro (_ ∨ _) _ ?_ ?_); (· (first | exact Or.inl rfl | exact Or.inr rfl | exact t_b01 _ | assumption)); (conv => whnf))
        | ((with_reducible refine @And.intro (¬ (_ = _)) _ ?_ ?_); (· first | assumption | (with_reducible assumption)); (conv => whnf))
        | (refine hX _ _ _ _ _ _ ?_; (conv => whnf); fail_if_success show False)
        | (rw [c_si]; (conv => whnf))
        | (refine ⟨_, rfl, ?_⟩; (conv => whnf))
        | (refine ⟨_, _, rfl, ?_⟩; (conv => whnf))
        | (refine ⟨_, _, _, rfl, ?_⟩; (conv => whnf))
        | (refine ⟨_, _, _, _, rfl, ?_⟩; (conv => whnf))
        | (refine ⟨q,n,rfl,?_⟩; (conv => whnf))
        | (refine ⟨true,rfl,?_⟩; (conv => whnf))
        | (refine ⟨false,rfl,?_⟩; (conv => whnf))
        | (refine And.intro (fun c => ?_) (fun c => ?_) <;> (first | (exact absurd c (by decide +kernel)) | (exact absurd c (by assumption)) | (exact False.elim (c (by assumption))) | (conv => whnf)))
        | fail)
      intro x hx
      exact bad x hx
    | true =>
      have d3 : ¬ t_b (t_in q (nI 0) (nI 16) && t_in n (nI 1) (nI 40)) = 0 := by rw [e0]; decide +kernel
      rcases c_rc what 0 2 (A := 0) (B := Int32.ofInt 2) (by decide +kernel) (by decide +kernel) (by omega) (by omega) with ⟨w, -, hw, rfl, e2⟩ | ⟨e2, h1⟩ | ⟨e2, h1, h2⟩
      · have d4 : ¬ nI w < 0 ∧ ¬ Int32.ofInt 2 < nI w := ⟨(nI_nn (by omega)).1, fun q => by
          have : nI w ≤ nI 2 := (nI_leI (by omega) (by omega)).mpr hw
          exact absurd this (Int32.not_le.mpr q)⟩
        obtain ⟨d4, d5⟩ := d4
        by_cases eh : g_isH (cG P I L) h = true
        · obtain ⟨h, hh, rfl⟩ := t_in_of (n := c_h I) (by omega) eh
          rw [e1, Bool.true_and, e0, e2, eh, Bool.and_self, Bool.and_self, g_ck_t] at hQ
          clear bad
          obtain ⟨n, hn40, rfl⟩ : ∃ m, m ≤ 40 ∧ n = nI m := by
            rw [Bool.and_eq_true] at e0
            rcases c_rc n 1 40 (A := Int32.ofInt 1) (B := Int32.ofInt 40) (by decide +kernel) (by decide +kernel) (by omega) (by omega) with ⟨m, hm1, hm, rfl, e2⟩ | ⟨e2, h3⟩ | ⟨e2, h3, h4⟩
            · exact ⟨m, hm, rfl⟩
            · rw [e2] at e0
              cases e0.2
            · rw [e2] at e0
              cases e0.2
          have d6 : ¬ nI h < 0 := (nI_nn (by omega)).1
          have d7 : ¬ I 1 11 ≤ nI h := by
            rw [hn, nI_leI (by omega) (by omega)]
            omega
          rw [nI_clamp (by omega), nI_clamp (by omega), nI_clamp (by omega)] at hQ
          have loop : ∀ k, k ≤ m → ∀ M, c_sp I M → ∀ o o', (o = none ∨ ∃ z, o = some (.int z)) → (o' = none ∨ ∃ z, o' = some (.int z)) → X 69 [some (.ref 0), some (.int seed), some (.int (nI m)), some (.int q), some (.int (nI n)), some (.int (nI w)), some (.int (nI h)), some (.int (g_spanL (cG P I L) seed q n k)), some (.int (g_spanM (cG P I L) seed q n k)), some (.int (g_spanI (cG P I L) seed q n h k)), some (.int (nI k)), o, o'] [] (cW P Z M) 0 0 := by
            refine t_for fun k k1 ih M hM o o' ho ho' => ?_
            have gM := hM.good hg
            have eG := hM.G hg
            have kM : g_ok (cG P M L) := by rw [eG]; exact hk0
            by_cases hk : k = m
            · subst hk
              have d8 : nI k ≤ nI k := Int32.le_refl _
              clear ih
              have qq : w = 0 ∨ w = 1 ∨ w = 2 := by omega
              have fin := c_ask hQ hg hM rfl
              clear hQ
              rcases qq with rfl | rfl | rfl
              all_goals rcases ho with rfl | ⟨z, rfl⟩
              all_goals rcases ho' with rfl | ⟨z', rfl⟩
              all_goals
                refine hG _ _ _ _ _ _ ?_
                (conv => whnf)
                repeat' (first
                  | ((with_reducible refine @And.intro (vp_in _ _) _ ?_ ?_); (· (first | with_reducible assumption | ((with_reducible refine t_vin ?_); decide) | ((with_reducible refine vp_in_nI ?_ ?_) <;> first | omega | decide) | (simp (disch := omega) only [xl_n, xl_m, nI_dec, nI_sb, nI_add, pk_mul]; (with_reducible refine vp_in_nI ?_ ?_) <;> first | omega | decide))); (conv => whnf))
                  | (refine And.intro (by first | with_reducible assumption | exact (show cL _ _ = _ from rfl) | decide) ?_; (conv => whnf))
                  | ((with_reducible refine @And.intro (_ = _) _ ?_ ?_); (· rfl); (conv => whnf))
                  | ((with_reducible refine @And.intro (@LE.le Nat _ _ _) _ ?_ ?_); (· (first | exact Nat.zero_le _ | exact Nat.le_of_ble_eq_true rfl | omega)); (conv => whnf))
                  | ((with_reducible refine @And.intro (@LT.lt Nat _ _ _) _ ?_ ?_); (· omega); (conv => whnf))
                  | ((with_reducible refine @And.intro (∃ _, _ = _) _ ?_ ?_); (· exact ⟨_, rfl⟩); (conv => whnf))
                  | ((with_reducible refine @And.intro (_ ∨ _) _ ?_ ?_); (· (first | exact Or.inl rfl | exact Or.inr rfl | exact t_b01 _ | assumption)); (conv => whnf))
                  | ((with_reducible refine @And.intro (¬ (_ = _)) _ ?_ ?_); (· first | assumption | (with_reducible assumption)); (conv => whnf))
                  | (refine hX _ _ _ _ _ _ ?_; (conv => whnf); fail_if_success show False)
                  | (rw [c_si]; (conv => whnf))
                  | (refine ⟨_, rfl, ?_⟩; (conv => whnf))
                  | (refine ⟨_, _, rfl, ?_⟩; (conv => whnf))
                  | (refine ⟨_, _, _, rfl, ?_⟩; (conv => whnf))
                  | (refine ⟨_, _, _, _, rfl, ?_⟩; (conv => whnf))
                  | (refine And.intro (fun c => ?_) (fun c => ?_) <;> (first | (exact absurd c (by decide +kernel)) | (exact absurd c (by assumption)) | (exact False.elim (c (by assumption))) | (conv => whnf)))
                  | fail)
                exact fin
            · have d8 : ¬ nI m ≤ nI k := by
                rw [nI_leI (by omega) (by omega)]
                omega
              have nx := fun J hJ o o' => ih (k + 1) (by omega) (by omega) J hJ o o'
              clear ih hQ
              have step : ∀ J, c_sp M J → c_ts P Z J 7 L → cA J 7 = g_fated (cG P M L) (seed + nI k) q n → X 69 [some (.ref 0), some (.int seed), some (.int (nI m)), some (.int q), some (.int (nI n)), some (.int (nI w)), some (.int (nI h)), some (.int (g_spanL (cG P I L) seed q n (k + 1))), some (.int (g_spanM (cG P I L) seed q n (k + 1))), some (.int (g_spanI (cG P I L) seed q n h (k + 1))), some (.int (nI (k + 1))), some (.int (t_or (c_h J) (fun h => decide (J (10 * 7) h = nI 1)))), some (.int (t_ones (t_or (c_h J) (fun h => decide (J (10 * 7) h = nI 1)))))] [] (cW P Z J) 0 0 ∧ g_spanN (cG P I L) seed q n k = t_ones (t_or (c_h J) (fun h => decide (J (10 * 7) h = nI 1))) ∧ g_spanI (cG P I L) seed q n h (k + 1) = g_spanI (cG P I L) seed q n h k + ((t_or (c_h J) (fun h => decide (J (10 * 7) h = nI 1)) >>> (nI h &&& 31)) &&& nI 1) ∧ t_m9 (t_or (c_h J) (fun h => decide (J (10 * 7) h = nI 1))) ∧ c_ok J ∧ c_is J 7 := fun J hJ tJ eJ => by
                rw [eG] at eJ
                have spJ := hM.tr hJ
                have okJ := (spJ.good hg).ok
                have eal : t_or (c_h J) (fun h => decide (J (10 * 7) h = nI 1)) = g_alive (gGK (cG P I L)) (g_fated (cG P I L) (seed + nI k) q n) := by
                  rw [c_al (L := L) tJ.2.2.1, spJ.kp.K hok hg.2.2.2.2.1, eJ]
                  rfl
                refine ⟨nx J spJ _ _ (Or.inr ⟨_, rfl⟩) (Or.inr ⟨_, rfl⟩), by rw [eal]; rfl, ?_, t_or_m9 okJ.2.1, okJ, tJ.2.2.1⟩
                rw [g_spanI_s, eal, t_has_1]
                congr 2
                have e : t_has (g_alive (gGK (cG P I L)) (g_fated (cG P I L) (seed + nI k) q n)) h = g_al (gGK (cG P I L)) (g_fated (cG P I L) (seed + nI k) q n) h := by
                  unfold g_alive
                  rw [th_OR (by show c_h I ≤ 32; omega) (by omega), decide_eq_true (show h < gn (gGK (cG P I L)) from hh), Bool.true_and]
                rw [e]
              clear nx
              have ek2 : Int32.ofInt 1 = nI 1 := xl_n.2.1
              rcases ho with rfl | ⟨z, rfl⟩
              all_goals rcases ho' with rfl | ⟨z', rfl⟩
              all_goals
                refine hG _ _ _ _ _ _ ?_
                (conv => whnf)
                repeat' (first
                  | ((with_reducible refine @And.intro (vp_in _ _) _ ?_ ?_); (· (first | with_reducible assumption | ((with_reducible refine t_vin ?_); decide) | ((with_reducible refine vp_in_nI ?_ ?_) <;> first | omega | decide) | (simp (disch := omega) only [xl_n, xl_m, nI_dec, nI_sb, nI_add, pk_mul]; (with_reducible refine vp_in_nI ?_ ?_) <;> first | omega | decide))); (conv => whnf))
                  | (refine And.intro (by first | with_reducible assumption | exact (show cL _ _ = _ from rfl) | decide) ?_; (conv => whnf))
                  | ((with_reducible refine @And.intro (_ = _) _ ?_ ?_); (· rfl); (conv => whnf))
                  | ((with_reducible refine @And.intro (@LE.le Nat _ _ _) _ ?_ ?_); (· (first | exact Nat.zero_le _ | exact Nat.le_of_ble_eq_true rfl | omega)); (conv => whnf))
                  | ((with_reducible refine @And.intro (@LT.lt Nat _ _ _) _ ?_ ?_); (· omega); (conv => whnf))
                  | ((with_reducible refine @And.intro (∃ _, _ = _) _ ?_ ?_); (· exact ⟨_, rfl⟩); (conv => whnf))
                  | ((with_reducible refine @And.intro (_ ∨ _) _ ?_ ?_); (· (first | exact Or.inl rfl | exact Or.inr rfl | exact t_b01 _ | assumption)); (conv => whnf))
                  | ((with_reducible refine @And.intro (¬ (_ = _)) _ ?_ ?_); (· first | assumption | (with_reducible assumption)); (conv => whnf))
                  | (refine hX _ _ _ _ _ _ ?_; (conv => whnf); fail_if_success show False)
                  | (rw [c_si]; (conv => whnf))
                  | (refine ⟨_, rfl, ?_⟩; (conv => whnf))
                  | (refine ⟨_, _, rfl, ?_⟩; (conv => whnf))
                  | (refine ⟨_, _, _, rfl, ?_⟩; (conv => whnf))
                  | (refine ⟨_, _, _, _, rfl, ?_⟩; (conv => whnf))
                  | (refine ⟨seed+nI k,q,n,L,rfl,gM,kM,hn40,?_⟩; (conv => whnf))
                  | (refine And.intro (fun c => ?_) (fun c => ?_) <;> (first | (exact absurd c (by decide +kernel)) | (exact absurd c (by assumption)) | (exact False.elim (c (by assumption))) | (conv => whnf)))
                  | fail)
                intro J hJ tJ eJ
                obtain ⟨fin, eN, eI, m9, okJ, iJ⟩ := step J hJ tJ eJ
                rw [g_spanL_s, g_spanM_s, eI, eN] at fin
                clear step
                (conv => whnf)
                by_cases f : g_spanL (cG P I L) seed q n k = nM
                · have d9 : g_spanL (cG P I L) seed q n k = Int32.ofInt (-1) := f.trans xl_m.symm
                  rw [if_pos f] at fin
                  repeat' (first
                    | ((with_reducible refine @And.intro (vp_in _ _) _ ?_ ?_); (· (first | with_reducible assumption | ((with_reducible refine t_vin ?_); decide) | ((with_reducible refine vp_in_nI ?_ ?_) <;> first | omega | decide) | (simp (disch := omega) only [xl_n, xl_m, nI_dec, nI_sb, nI_add, pk_mul]; (with_reducible refine vp_in_nI ?_ ?_) <;> first | omega | decide))); (conv => whnf))
                    | (refine And.intro (by first | with_reducible assumption | exact (show cL _ _ = _ from rfl) | decide) ?_; (conv => whnf))
                    | ((with_reducible refine @And.intro (_ = _) _ ?_ ?_); (· rfl); (conv => whnf))
                    | ((with_reducible refine @And.intro (@LE.le Nat _ _ _) _ ?_ ?_); (· (first | exact Nat.zero_le _ | exact Nat.le_of_ble_eq_true rfl | omega)); (conv => whnf))
                    | ((with_reducible refine @And.intro (@LT.lt Nat _ _ _) _ ?_ ?_); (· omega); (conv => whnf))
                    | ((with_reducible refine @And.intro (∃ _, _ = _) _ ?_ ?_); (· exact ⟨_, rfl⟩); (conv => whnf))
                    | ((with_reducible refine @And.intro (_ ∨ _) _ ?_ ?_); (· (first | exact Or.inl rfl | exact Or.inr rfl | exact t_b01 _ | assumption)); (conv => whnf))
                    | ((with_reducible refine @And.intro (¬ (_ = _)) _ ?_ ?_); (· first | assumption | (with_reducible assumption)); (conv => whnf))
                    | (refine hX _ _ _ _ _ _ ?_; (conv => whnf); fail_if_success show False)
                    | (rw [c_si]; (conv => whnf))
                    | (refine ⟨_, rfl, ?_⟩; (conv => whnf))
                    | (refine ⟨_, _, rfl, ?_⟩; (conv => whnf))
                    | (refine ⟨_, _, _, rfl, ?_⟩; (conv => whnf))
                    | (refine ⟨_, _, _, _, rfl, ?_⟩; (conv => whnf))
                    | (refine ⟨7,rfl,h7,okJ,iJ,?_⟩; (conv => whnf))
                    | (refine ⟨_,rfl,m9,?_⟩; (conv => whnf))
                    | (refine And.intro (fun c => ?_) (fun c => ?_) <;> (first | (exact absurd c (by decide +kernel)) | (exact absurd c (by assumption)) | (exact False.elim (c (by assumption))) | (conv => whnf)))
                    | fail)
                  refine hG _ _ _ _ _ _ ?_
                  (conv => whnf)
                  repeat' (first
                    | ((with_reducible refine @And.intro (vp_in _ _) _ ?_ ?_); (· (first | with_reducible assumption | ((with_reducible refine t_vin ?_); decide) | ((with_reducible refine vp_in_nI ?_ ?_) <;> first | omega | decide) | (simp (disch := omega) only [xl_n, xl_m, nI_dec, nI_sb, nI_add, pk_mul]; (with_reducible refine vp_in_nI ?_ ?_) <;> first | omega | decide))); (conv => whnf))
                    | (refine And.intro (by first | with_reducible assumption | exact (show cL _ _ = _ from rfl) | decide) ?_; (conv => whnf))
                    | ((with_reducible refine @And.intro (_ = _) _ ?_ ?_); (· rfl); (conv => whnf))
                    | ((with_reducible refine @And.intro (@LE.le Nat _ _ _) _ ?_ ?_); (· (first | exact Nat.zero_le _ | exact Nat.le_of_ble_eq_true rfl | omega)); (conv => whnf))
                    | ((with_reducible refine @And.intro (@LT.lt Nat _ _ _) _ ?_ ?_); (· omega); (conv => whnf))
                    | ((with_reducible refine @And.intro (∃ _, _ = _) _ ?_ ?_); (· exact ⟨_, rfl⟩); (conv => whnf))
                    | ((with_reducible refine @And.intro (_ ∨ _) _ ?_ ?_); (· (first | exact Or.inl rfl | exact Or.inr rfl | exact t_b01 _ | assumption)); (conv => whnf))
                    | ((with_reducible refine @And.intro (¬ (_ = _)) _ ?_ ?_); (· first | assumption | (with_reducible assumption)); (conv => whnf))
                    | (refine hX _ _ _ _ _ _ ?_; (conv => whnf); fail_if_success show False)
                    | (rw [c_si]; (conv => whnf))
                    | (refine ⟨_, rfl, ?_⟩; (conv => whnf))
                    | (refine ⟨_, _, rfl, ?_⟩; (conv => whnf))
                    | (refine ⟨_, _, _, rfl, ?_⟩; (conv => whnf))
                    | (refine ⟨_, _, _, _, rfl, ?_⟩; (conv => whnf))
                    | (refine And.intro (fun c => ?_) (fun c => ?_) <;> (first | (exact absurd c (by decide +kernel)) | (conv => whnf)))
                    | fail)
                  clear hX hG
                  simp (disch := omega) only [xl_n, xl_m, nI_dec, nI_sb, xl_0, xl_1, cW_i, Nat.add_zero, Nat.reduceAdd, Nat.reduceMul, t_bn0, t_bn1, Classical.not_not, t_lt, nI_add, nI_1, pk_mul, nI_clamp, c_si, nI_eq, nI_leI, nM_ne, nM_ne, xm_set, xm_lv0, xm_psh] at *
                  exact fin
                · have d9 : ¬ g_spanL (cG P I L) seed q n k = Int32.ofInt (-1) := fun z => f (z.trans xl_m)
                  rw [if_neg f] at fin
                  repeat' (first
                    | ((with_reducible refine @And.intro (vp_in _ _) _ ?_ ?_); (· (first | with_reducible assumption | ((with_reducible refine t_vin ?_); decide) | ((with_reducible refine vp_in_nI ?_ ?_) <;> first | omega | decide) | (simp (disch := omega) only [xl_n, xl_m, nI_dec, nI_sb, nI_add, pk_mul]; (with_reducible refine vp_in_nI ?_ ?_) <;> first | omega | decide))); (conv => whnf))
                    | (refine And.intro (by first | with_reducible assumption | exact (show cL _ _ = _ from rfl) | decide) ?_; (conv => whnf))
                    | ((with_reducible refine @And.intro (_ = _) _ ?_ ?_); (· rfl); (conv => whnf))
                    | ((with_reducible refine @And.intro (@LE.le Nat _ _ _) _ ?_ ?_); (· (first | exact Nat.zero_le _ | exact Nat.le_of_ble_eq_true rfl | omega)); (conv => whnf))
                    | ((with_reducible refine @And.intro (@LT.lt Nat _ _ _) _ ?_ ?_); (· omega); (conv => whnf))
                    | ((with_reducible refine @And.intro (∃ _, _ = _) _ ?_ ?_); (· exact ⟨_, rfl⟩); (conv => whnf))
                    | ((with_reducible refine @And.intro (_ ∨ _) _ ?_ ?_); (· (first | exact Or.inl rfl | exact Or.inr rfl | exact t_b01 _ | assumption)); (conv => whnf))
                    | ((with_reducible refine @And.intro (¬ (_ = _)) _ ?_ ?_); (· first | assumption | (with_reducible assumption)); (conv => whnf))
                    | (refine hX _ _ _ _ _ _ ?_; (conv => whnf); fail_if_success show False)
                    | (rw [c_si]; (conv => whnf))
                    | (refine ⟨_, rfl, ?_⟩; (conv => whnf))
                    | (refine ⟨_, _, rfl, ?_⟩; (conv => whnf))
                    | (refine ⟨_, _, _, rfl, ?_⟩; (conv => whnf))
                    | (refine ⟨_, _, _, _, rfl, ?_⟩; (conv => whnf))
                    | (refine ⟨7,rfl,h7,okJ,iJ,?_⟩; (conv => whnf))
                    | (refine ⟨_,rfl,m9,?_⟩; (conv => whnf))
                    | (refine And.intro (fun c => ?_) (fun c => ?_) <;> (first | (exact absurd c (by decide +kernel)) | (exact absurd c (by assumption)) | (exact False.elim (c (by assumption))) | (conv => whnf)))
                    | fail)
                  refine hG _ _ _ _ _ _ ?_
                  (conv => whnf)
                  repeat' (first
                    | ((with_reducible refine @And.intro (vp_in _ _) _ ?_ ?_); (· (first | with_reducible assumption | ((with_reducible refine t_vin ?_); decide) | ((with_reducible refine vp_in_nI ?_ ?_) <;> first | omega | decide) | (simp (disch := omega) only [xl_n, xl_m, nI_dec, nI_sb, nI_add, pk_mul]; (with_reducible refine vp_in_nI ?_ ?_) <;> first | omega | decide))); (conv => whnf))
                    | (refine And.intro (by first | with_reducible assumption | exact (show cL _ _ = _ from rfl) | decide) ?_; (conv => whnf))
                    | ((with_reducible refine @And.intro (_ = _) _ ?_ ?_); (· rfl); (conv => whnf))
                    | ((with_reducible refine @And.intro (@LE.le Nat _ _ _) _ ?_ ?_); (· (first | exact Nat.zero_le _ | exact Nat.le_of_ble_eq_true rfl | omega)); (conv => whnf))
                    | ((with_reducible refine @And.intro (@LT.lt Nat _ _ _) _ ?_ ?_); (· omega); (conv => whnf))
                    | ((with_reducible refine @And.intro (∃ _, _ = _) _ ?_ ?_); (· exact ⟨_, rfl⟩); (conv => whnf))
                    | ((with_reducible refine @And.intro (_ ∨ _) _ ?_ ?_); (· (first | exact Or.inl rfl | exact Or.inr rfl | exact t_b01 _ | assumption)); (conv => whnf))
                    | ((with_reducible refine @And.intro (¬ (_ = _)) _ ?_ ?_); (· first | assumption | (with_reducible assumption)); (conv => whnf))
                    | (refine hX _ _ _ _ _ _ ?_; (conv => whnf); fail_if_success show False)
                    | (rw [c_si]; (conv => whnf))
                    | (refine ⟨_, rfl, ?_⟩; (conv => whnf))
                    | (refine ⟨_, _, rfl, ?_⟩; (conv => whnf))
                    | (refine ⟨_, _, _, rfl, ?_⟩; (conv => whnf))
                    | (refine ⟨_, _, _, _, rfl, ?_⟩; (conv => whnf))
                    | (refine And.intro (fun c => ?_) (fun c => ?_) <;> (first | (exact absurd c (by decide +kernel)) | (conv => whnf)))
                    | fail)
                  clear hX hG
                  simp (disch := omega) only [xl_n, xl_m, nI_dec, nI_sb, xl_0, xl_1, cW_i, Nat.add_zero, Nat.reduceAdd, Nat.reduceMul, t_bn0, t_bn1, Classical.not_not, t_lt, nI_add, nI_1, pk_mul, nI_clamp, c_si, nI_eq, nI_leI, nM_ne, nM_ne, xm_set, xm_lv0, xm_psh] at *
                  exact fin
          have fin := loop 0 (Nat.zero_le _) I c_sp.rf none none (Or.inl rfl) (Or.inl rfl)
          have eL0 : g_spanL (cG P I L) seed q n 0 = Int32.ofInt (-1) := xl_m.symm
          rw [eL0] at fin
          clear loop hQ
          repeat' (first
            | ((with_reducible refine @And.intro (vp_in _ _) _ ?_ ?_); (· (first | with_reducible assumption | ((with_reducible refine t_vin ?_); decide) | ((with_reducible refine vp_in_nI ?_ ?_) <;> first | omega | decide) | (simp (disch := omega) only [xl_n, xl_m, nI_dec, nI_sb, nI_add, pk_mul]; (with_reducible refine vp_in_nI ?_ ?_) <;> first | omega | decide))); (conv => whnf))
            | (refine And.intro (by first | with_reducible assumption | exact (show cL _ _ = _ from rfl) | decide) ?_; (conv => whnf))
            | ((with_reducible refine @And.intro (_ = _) _ ?_ ?_); (· rfl); (conv => whnf))
            | ((with_reducible refine @And.intro (@LE.le Nat _ _ _) _ ?_ ?_); (· (first | exact Nat.zero_le _ | exact Nat.le_of_ble_eq_true rfl | omega)); (conv => whnf))
            | ((with_reducible refine @And.intro (@LT.lt Nat _ _ _) _ ?_ ?_); (· omega); (conv => whnf))
            | ((with_reducible refine @And.intro (∃ _, _ = _) _ ?_ ?_); (· exact ⟨_, rfl⟩); (conv => whnf))
            | ((with_reducible refine @And.intro (_ ∨ _) _ ?_ ?_); (· (first | exact Or.inl rfl | exact Or.inr rfl | exact t_b01 _ | assumption)); (conv => whnf))
            | ((with_reducible refine @And.intro (¬ (_ = _)) _ ?_ ?_); (· first | assumption | (with_reducible assumption)); (conv => whnf))
            | (refine hX _ _ _ _ _ _ ?_; (conv => whnf); fail_if_success show False)
            | (rw [c_si]; (conv => whnf))
            | (refine ⟨_, rfl, ?_⟩; (conv => whnf))
            | (refine ⟨_, _, rfl, ?_⟩; (conv => whnf))
            | (refine ⟨_, _, _, rfl, ?_⟩; (conv => whnf))
            | (refine ⟨_, _, _, _, rfl, ?_⟩; (conv => whnf))
            | (refine ⟨q,nI n,rfl,?_⟩; (conv => whnf))
            | (refine ⟨true,rfl,?_⟩; (conv => whnf))
            | (refine And.intro (fun c => ?_) (fun c => ?_) <;> (first | (exact absurd c (by decide +kernel)) | (exact absurd c (by assumption)) | (exact False.elim (c (by assumption))) | (conv => whnf)))
            | fail)
          exact fin
        · have eh : g_isH (cG P I L) h = false := by
            cases z : g_isH (cG P I L) h with
            | false => rfl
            | true => exact absurd z eh
          have bad := bad (by rw [eh, Bool.and_false])
          clear hQ
          rcases c_there_cases hok eh with d6 | ⟨d6, d7⟩
          · repeat' (first
              | ((with_reducible refine @And.intro (vp_in _ _) _ ?_ ?_); (· (first | with_reducible assumption | ((with_reducible refine t_vin ?_); decide) | ((with_reducible refine vp_in_nI ?_ ?_) <;> first | omega | decide) | (simp (disch := omega) only [xl_n, xl_m, nI_dec, nI_sb, nI_add, pk_mul]; (with_reducible refine vp_in_nI ?_ ?_) <;> first | omega | decide))); (conv => whnf))
              | (refine And.intro (by first | with_reducible assumption | exact (show cL _ _ = _ from rfl) | decide) ?_; (conv => whnf))
              | ((with_reducible refine @And.intro (_ = _) _ ?_ ?_); (· rfl); (conv => whnf))
              | ((with_reducible refine @And.intro (@LE.le Nat _ _ _) _ ?_ ?_); (· (first | exact Nat.zero_le _ | exact Nat.le_of_ble_eq_true rfl | omega)); (conv => whnf))
              | ((with_reducible refine @And.intro (@LT.lt Nat _ _ _) _ ?_ ?_); (· omega); (conv => whnf))
              | ((with_reducible refine @And.intro (∃ _, _ = _) _ ?_ ?_); (· exact ⟨_, rfl⟩); (conv => whnf))
              | ((with_reducible refine @And.intro (_ ∨ _) _ ?_ ?_); (· (first | exact Or.inl rfl | exact Or.inr rfl | exact t_b01 _ | assumption)); (conv => whnf))
              | ((with_reducible refine @And.intro (¬ (_ = _)) _ ?_ ?_); (· first | assumption | (with_reducible assumption)); (conv => whnf))
              | (refine hX _ _ _ _ _ _ ?_; (conv => whnf); fail_if_success show False)
              | (rw [c_si]; (conv => whnf))
              | (refine ⟨_, rfl, ?_⟩; (conv => whnf))
              | (refine ⟨_, _, rfl, ?_⟩; (conv => whnf))
              | (refine ⟨_, _, _, rfl, ?_⟩; (conv => whnf))
              | (refine ⟨_, _, _, _, rfl, ?_⟩; (conv => whnf))
              | (refine ⟨q,n,rfl,?_⟩; (conv => whnf))
              | (refine ⟨true,rfl,?_⟩; (conv => whnf))
              | (refine ⟨false,rfl,?_⟩; (conv => whnf))
              | (refine And.intro (fun c => ?_) (fun c => ?_) <;> (first | (exact absurd c (by decide +kernel)) | (exact absurd c (by assumption)) | (exact False.elim (c (by assumption))) | (conv => whnf)))
              | fail)
            intro x hx
            exact bad x hx
          · repeat' (first
              | ((with_reducible refine @And.intro (vp_in _ _) _ ?_ ?_); (· (first | with_reducible assumption | ((with_reducible refine t_vin ?_); decide) | ((with_reducible refine vp_in_nI ?_ ?_) <;> first | omega | decide) | (simp (disch := omega) only [xl_n, xl_m, nI_dec, nI_sb, nI_add, pk_mul]; (with_reducible refine vp_in_nI ?_ ?_) <;> first | omega | decide))); (conv => whnf))
              | (refine And.intro (by first | with_reducible assumption | exact (show cL _ _ = _ from rfl) | decide) ?_; (conv => whnf))
              | ((with_reducible refine @And.intro (_ = _) _ ?_ ?_); (· rfl); (conv => whnf))
              | ((with_reducible refine @And.intro (@LE.le Nat _ _ _) _ ?_ ?_); (· (first | exact Nat.zero_le _ | exact Nat.le_of_ble_eq_true rfl | omega)); (conv => whnf))
              | ((with_reducible refine @And.intro (@LT.lt Nat _ _ _) _ ?_ ?_); (· omega); (conv => whnf))
              | ((with_reducible refine @And.intro (∃ _, _ = _) _ ?_ ?_); (· exact ⟨_, rfl⟩); (conv => whnf))
              | ((with_reducible refine @And.intro (_ ∨ _) _ ?_ ?_); (· (first | exact Or.inl rfl | exact Or.inr rfl | exact t_b01 _ | assumption)); (conv => whnf))
              | ((with_reducible refine @And.intro (¬ (_ = _)) _ ?_ ?_); (· first | assumption | (with_reducible assumption)); (conv => whnf))
              | (refine hX _ _ _ _ _ _ ?_; (conv => whnf); fail_if_success show False)
              | (rw [c_si]; (conv => whnf))
              | (refine ⟨_, rfl, ?_⟩; (conv => whnf))
              | (refine ⟨_, _, rfl, ?_⟩; (conv => whnf))
              | (refine ⟨_, _, _, rfl, ?_⟩; (conv => whnf))
              | (refine ⟨_, _, _, _, rfl, ?_⟩; (conv => whnf))
              | (refine ⟨q,n,rfl,?_⟩; (conv => whnf))
              | (refine ⟨true,rfl,?_⟩; (conv => whnf))
              | (refine ⟨false,rfl,?_⟩; (conv => whnf))
              | (refine And.intro (fun c => ?_) (fun c => ?_) <;> (first | (exact absurd c (by decide +kernel)) | (exact absurd c (by assumption)) | (exact False.elim (c (by assumption))) | (conv => whnf)))
              | fail)
            intro x hx
            exact bad x hx
      all_goals
        have bad := bad (by rw [e2]; simp)
        clear hQ
        repeat' (first
          | ((with_reducible refine @And.intro (vp_in _ _) _ ?_ ?_); (· (first | with_reducible assumption | ((with_reducible refine t_vin ?_); decide) | ((with_reducible refine vp_in_nI ?_ ?_) <;> first | omega | decide) | (simp (disch := omega) only [xl_n, xl_m, nI_dec, nI_sb, nI_add, pk_mul]; (with_reducible refine vp_in_nI ?_ ?_) <;> first | omega | decide))); (conv => whnf))
          | (refine And.intro (by first | with_reducible assumption | exact (show cL _ _ = _ from rfl) | decide) ?_; (conv => whnf))
          | ((with_reducible refine @And.intro (_ = _) _ ?_ ?_); (· rfl); (conv => whnf))
          | ((with_reducible refine @And.intro (@LE.le Nat _ _ _) _ ?_ ?_); (· (first | exact Nat.zero_le _ | exact Nat.le_of_ble_eq_true rfl | omega)); (conv => whnf))
          | ((with_reducible refine @And.intro (@LT.lt Nat _ _ _) _ ?_ ?_); (· omega); (conv => whnf))
          | ((with_reducible refine @And.intro (∃ _, _ = _) _ ?_ ?_); (· exact ⟨_, rfl⟩); (conv => whnf))
          | ((with_reducible refine @And.intro (_ ∨ _) _ ?_ ?_); (· (first | exact Or.inl rfl | exact Or.inr rfl | exact t_b01 _ | assumption)); (conv => whnf))
          | ((with_reducible refine @And.intro (¬ (_ = _)) _ ?_ ?_); (· first | assumption | (with_reducible assumption)); (conv => whnf))
          | (refine hX _ _ _ _ _ _ ?_; (conv => whnf); fail_if_success show False)
          | (rw [c_si]; (conv => whnf))
          | (refine ⟨_, rfl, ?_⟩; (conv => whnf))
          | (refine ⟨_, _, rfl, ?_⟩; (conv => whnf))
          | (refine ⟨_, _, _, rfl, ?_⟩; (conv => whnf))
          | (refine ⟨_, _, _, _, rfl, ?_⟩; (conv => whnf))
          | (refine ⟨q,n,rfl,?_⟩; (conv => whnf))
          | (refine ⟨true,rfl,?_⟩; (conv => whnf))
          | (refine ⟨false,rfl,?_⟩; (conv => whnf))
          | (refine And.intro (fun c => ?_) (fun c => ?_) <;> (first | (exact absurd c (by decide +kernel)) | (exact absurd c (by assumption)) | (exact False.elim (c (by assumption))) | (conv => whnf)))
          | fail)
        intro x hx
        exact bad x hx
  all_goals
    have bad := bad (by rw [e1]; rfl)
    clear hQ
    repeat' (first
      | ((with_reducible refine @And.intro (vp_in _ _) _ ?_ ?_); (· (first | with_reducible assumption | ((with_reducible refine t_vin ?_); decide) | ((with_reducible refine vp_in_nI ?_ ?_) <;> first | omega | decide) | (simp (disch := omega) only [xl_n, xl_m, nI_dec, nI_sb, nI_add, pk_mul]; (with_reducible refine vp_in_nI ?_ ?_) <;> first | omega | decide))); (conv => whnf))
      | (refine And.intro (by first | with_reducible assumption | exact (show cL _ _ = _ from rfl) | decide) ?_; (conv => whnf))
      | ((with_reducible refine @And.intro (_ = _) _ ?_ ?_); (· rfl); (conv => whnf))
      | ((with_reducible refine @And.intro (@LE.le Nat _ _ _) _ ?_ ?_); (· (first | exact Nat.zero_le _ | exact Nat.le_of_ble_eq_true rfl | omega)); (conv => whnf))
      | ((with_reducible refine @And.intro (@LT.lt Nat _ _ _) _ ?_ ?_); (· omega); (conv => whnf))
      | ((with_reducible refine @And.intro (∃ _, _ = _) _ ?_ ?_); (· exact ⟨_, rfl⟩); (conv => whnf))
      | ((with_reducible refine @And.intro (_ ∨ _) _ ?_ ?_); (· (first | exact Or.inl rfl | exact Or.inr rfl | exact t_b01 _ | assumption)); (conv => whnf))
      | ((with_reducible refine @And.intro (¬ (_ = _)) _ ?_ ?_); (· first | assumption | (with_reducible assumption)); (conv => whnf))
      | (refine hX _ _ _ _ _ _ ?_; (conv => whnf); fail_if_success show False)
      | (rw [c_si]; (conv => whnf))
      | (refine ⟨_, rfl, ?_⟩; (conv => whnf))
      | (refine ⟨_, _, rfl, ?_⟩; (conv => whnf))
      | (refine ⟨_, _, _, rfl, ?_⟩; (conv => whnf))
      | (refine ⟨_, _, _, _, rfl, ?_⟩; (conv => whnf))
      | (refine ⟨q,n,rfl,?_⟩; (conv => whnf))
      | (refine ⟨true,rfl,?_⟩; (conv => whnf))
      | (refine ⟨false,rfl,?_⟩; (conv => whnf))
      | (refine And.intro (fun c => ?_) (fun c => ?_) <;> (first | (exact absurd c (by decide +kernel)) | (exact absurd c (by assumption)) | (exact False.elim (c (by assumption))) | (conv => whnf)))
      | fail)
    intro x hx
    exact bad x hx
theorem ct_X1_span : xm_Ct cI yX1_span (ws_ yX1_span cX1_span 13 (some .int)) 164 1 6 S_X1_span := xm_enter (rt := 0) (init := false) (by decide +kernel) rfl (fun h => by cases h) (Or.inl ⟨rfl, rfl⟩) (oX1_span) body_X1_span
theorem cv_X1_span {own : String} {cc : ByteArray} {fr pc idx : Nat} (hdg : decode cc pc = .ok (.invokevirtual idx, 3)) (hl : xm_ml own idx yX1_span) (hfr : 164 < fr) : xm_CallOK cI own cc fr pc (pc + 3) 7 1 6 (xm_this 0 S_X1_span) := xm_callV 0 cI_good (ct_X1_span) hdg hl q1920 q1921 q116 q1922 rfl rfl (by decide +kernel) hfr (by decide)
