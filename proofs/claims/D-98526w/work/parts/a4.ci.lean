/-! ===== a troupe: choices ===== -/
set_option maxRecDepth 100000
set_option maxHeartbeats 4000000
theorem c_ts.up {P : cP} {Z : cX} {I J : tI} {r : Nat} {L : List lC} (h : c_ts P Z I r L) (hJ : c_sc r I J) (h0 : J (10 * r) = I (10 * r)) (h6 : J r 6 = I r 6) (hw : g_w (cA J r)) : c_ts P Z J r L := by
  refine ⟨h.1, hJ.ok h.1 h.2.1, fun j hj => ?_, hw, hJ.lw h.1 h.2.2.2.2⟩
  have hrn := h.1.ne
  rw [(hJ.h h.1).1] at hj
  have h9 := h.2.1.2.1
  have := h.2.2.1 j hj
  rw [cA_gd (by omega)] at this ⊢
  rw [h0, h6, hJ 31 (by decide) (by omega) (by omega)]
  exact this
theorem g_cho_id {T : gT} {h : Nat} : g_cho T h (gc T h) = T := by
  refine g_ext (fun q => rfl) (fun q => rfl) (fun q => rfl) (fun a q => rfl) (fun a => ?_) (fun a => rfl) rfl
  show g_upd _ h _ a = _
  unfold g_upd
  by_cases q : a = h
  · rw [if_pos q, q]
    rfl
  · rw [if_neg q]
abbrev bX10_choices_0 : List xE := [(.iconst 0, 1, 0, 0, 0), (.istore_n 1, 2, 0, 0, 0)]
abbrev bX10_choices_2 : List xE := [(.iload_n 1, 3, 0, 0, 0), (.aload_n 0, 4, 0, 0, 0), (.getfield 3, 7, 7, 7, 1), (.getfield 38, 10, 0, 0, 1), (.getfield 64, 13, 1, 12, 0), (.if_icmp .ge 57, 16, 0, 70, 0)]
abbrev bX10_choices_16 : List xE := [(.aload_n 0, 17, 0, 0, 0), (.iload_n 1, 18, 0, 0, 0), (.invokevirtual 125, 21, 0, 0, 9), (.ifCond .le 43, 24, 0, 64, 0), (.aload_n 0, 25, 0, 0, 0), (.iload_n 1, 26, 0, 0, 0), (.invokevirtual 128, 29, 0, 1, 9), (.istore_n 2, 30, 0, 0, 0), (.iload_n 2, 31, 0, 0, 0), (.iconst (-1), 32, 0, 0, 0), (.if_icmp .ne 6, 35, 0, 38, 0), (.goto 29, 38, 0, 64, 0)]
abbrev bX10_choices_38 : List xE := [(.aload_n 0, 39, 0, 0, 0), (.iload_n 1, 40, 0, 0, 0), (.iload_n 2, 41, 0, 0, 0), (.invokevirtual 131, 44, 0, 2, 9), (.aload_n 0, 45, 0, 0, 0), (.getfield 31, 48, 7, 5, 1), (.iload_n 2, 49, 0, 0, 0), (.iaload, 50, 0, 0, 0), (.iconst (-1), 51, 0, 0, 0), (.if_icmp .ne 10, 54, 0, 61, 0), (.aload_n 0, 55, 0, 0, 0), (.getfield 31, 58, 7, 5, 1), (.iload_n 2, 59, 0, 0, 0), (.iload_n 1, 60, 0, 0, 0), (.iastore, 61, 0, 0, 0)]
abbrev bX10_choices_61 : List xE := [(.goto (-45), 64, 0, 16, 0)]
abbrev bX10_choices_64 : List xE := [(.iinc 1 1, 67, 0, 0, 0), (.goto (-65), 70, 0, 2, 0)]
abbrev bX10_choices_70 : List xE := [(.iconst 0, 71, 0, 0, 0), (.istore_n 1, 72, 0, 0, 0)]
abbrev bX10_choices_72 : List xE := [(.iload_n 1, 73, 0, 0, 0), (.aload_n 0, 74, 0, 0, 0), (.getfield 3, 77, 7, 7, 1), (.getfield 38, 80, 0, 0, 1), (.getfield 64, 83, 1, 12, 0), (.if_icmp .ge 44, 86, 0, 127, 0), (.aload_n 0, 87, 0, 0, 0), (.iload_n 1, 88, 0, 0, 0), (.invokevirtual 125, 91, 0, 0, 9), (.ifCond .ne 30, 94, 0, 121, 0), (.aload_n 0, 95, 0, 0, 0), (.getfield 25, 98, 7, 3, 1), (.iload_n 1, 99, 0, 0, 0), (.iconst 0, 100, 0, 0, 0), (.aload_n 0, 101, 0, 0, 0), (.getfield 25, 104, 7, 3, 1), (.iload_n 1, 105, 0, 0, 0), (.iaload, 106, 0, 0, 0), (.aload_n 0, 107, 0, 0, 0), (.getfield 3, 110, 7, 7, 1), (.getfield 38, 113, 0, 0, 1), (.getfield 134, 116, 1, 13, 0), (.isub, 117, 0, 0, 0), (.invokestatic 76, 120, 0, 3, 9), (.iastore, 121, 0, 0, 0)]
abbrev bX10_choices_121 : List xE := [(.iinc 1 1, 124, 0, 0, 0), (.goto (-52), 127, 0, 72, 0)]
abbrev bX10_choices_127 : List xE := [(.return_, 128, 0, 0, 0)]
abbrev kX10_choices : List (Nat × List xE) := [(0, bX10_choices_0), (2, bX10_choices_2), (16, bX10_choices_16), (38, bX10_choices_38), (61, bX10_choices_61), (64, bX10_choices_64), (70, bX10_choices_70), (72, bX10_choices_72), (121, bX10_choices_121), (127, bX10_choices_127)]
abbrev lX10_choices : List (Nat × Nat × Nat × xS) := [(2, 0, 0, xm_this 7 S_X10_lacks), (2, 0, 0, xm_this 7 S_X10_chooses), (3, 0, 0, xm_this 7 S_X10_takes), (2, 0, 0, S_J12_max)]
theorem oX10_choices_0  : xm_okb cI RX10 cX10_choices false 162 lX10_choices bX10_choices_0 0 := xo_0 dX10_choices_0 rfl trivial (xo_0 dX10_choices_1 rfl trivial (xo_n))
theorem oX10_choices_2  : xm_okb cI RX10 cX10_choices false 162 lX10_choices bX10_choices_2 2 := xo_0 dX10_choices_2 rfl trivial (xo_0 dX10_choices_3 rfl trivial (xo_1 dX10_choices_4 rfl (xm_fg_of (Or.inl q676) (by decide) rfl (by decide) rfl rfl (Or.inl rfl) rfl) (xo_1 dX10_choices_7 rfl (xm_fg_of (Or.inr ⟨_, q717⟩) (by decide) rfl (by decide) rfl rfl (Or.inl rfl) rfl) (xo_0 dX10_choices_10 rfl (xm_fg_of (Or.inr ⟨_, q559⟩) (by decide) rfl (by decide) rfl rfl (Or.inl rfl) rfl) (xo_0 dX10_choices_13 rfl rfl (xo_n))))))
theorem oX10_choices_16  : xm_okb cI RX10 cX10_choices false 162 lX10_choices bX10_choices_16 16 := xo_0 dX10_choices_16 rfl trivial (xo_0 dX10_choices_17 rfl trivial (xo_c rfl (cv_X10_lacks dX10_choices_18 (Or.inl q901) (by decide)) (xo_0 dX10_choices_21 rfl rfl (xo_0 dX10_choices_24 rfl trivial (xo_0 dX10_choices_25 rfl trivial (xo_c rfl (cv_X10_chooses dX10_choices_26 (Or.inl q906) (by decide)) (xo_0 dX10_choices_29 rfl trivial (xo_0 dX10_choices_30 rfl trivial (xo_0 dX10_choices_31 rfl trivial (xo_0 dX10_choices_32 rfl rfl (xo_0 dX10_choices_35 rfl rfl (xo_n))))))))))))
theorem oX10_choices_38  : xm_okb cI RX10 cX10_choices false 162 lX10_choices bX10_choices_38 38 := xo_0 dX10_choices_38 rfl trivial (xo_0 dX10_choices_39 rfl trivial (xo_0 dX10_choices_40 rfl trivial (xo_c rfl (cv_X10_takes dX10_choices_41 (Or.inl q971) (by decide)) (xo_0 dX10_choices_44 rfl trivial (xo_1 dX10_choices_45 rfl (xm_fg_of (Or.inl q672) (by decide) rfl (by decide) rfl rfl (Or.inl rfl) rfl) (xo_0 dX10_choices_48 rfl trivial (xo_0 dX10_choices_49 rfl trivial (xo_0 dX10_choices_50 rfl trivial (xo_0 dX10_choices_51 rfl rfl (xo_0 dX10_choices_54 rfl trivial (xo_1 dX10_choices_55 rfl (xm_fg_of (Or.inl q672) (by decide) rfl (by decide) rfl rfl (Or.inl rfl) rfl) (xo_0 dX10_choices_58 rfl trivial (xo_0 dX10_choices_59 rfl trivial (xo_0 dX10_choices_60 rfl trivial (xo_n)))))))))))))))
theorem oX10_choices_61  : xm_okb cI RX10 cX10_choices false 162 lX10_choices bX10_choices_61 61 := xo_0 dX10_choices_61 rfl rfl (xo_n)
theorem oX10_choices_64  : xm_okb cI RX10 cX10_choices false 162 lX10_choices bX10_choices_64 64 := xo_0 dX10_choices_64 rfl trivial (xo_0 dX10_choices_67 rfl rfl (xo_n))
theorem oX10_choices_70  : xm_okb cI RX10 cX10_choices false 162 lX10_choices bX10_choices_70 70 := xo_0 dX10_choices_70 rfl trivial (xo_0 dX10_choices_71 rfl trivial (xo_n))
theorem oX10_choices_72  : xm_okb cI RX10 cX10_choices false 162 lX10_choices bX10_choices_72 72 := xo_0 dX10_choices_72 rfl trivial (xo_0 dX10_choices_73 rfl trivial (xo_1 dX10_choices_74 rfl (xm_fg_of (Or.inl q676) (by decide) rfl (by decide) rfl rfl (Or.inl rfl) rfl) (xo_1 dX10_choices_77 rfl (xm_fg_of (Or.inr ⟨_, q717⟩) (by decide) rfl (by decide) rfl rfl (Or.inl rfl) rfl) (xo_0 dX10_choices_80 rfl (xm_fg_of (Or.inr ⟨_, q559⟩) (by decide) rfl (by decide) rfl rfl (Or.inl rfl) rfl) (xo_0 dX10_choices_83 rfl rfl (xo_0 dX10_choices_86 rfl trivial (xo_0 dX10_choices_87 rfl trivial (xo_c rfl (cv_X10_lacks dX10_choices_88 (Or.inl q901) (by decide)) (xo_0 dX10_choices_91 rfl rfl (xo_0 dX10_choices_94 rfl trivial (xo_1 dX10_choices_95 rfl (xm_fg_of (Or.inl q668) (by decide) rfl (by decide) rfl rfl (Or.inl rfl) rfl) (xo_0 dX10_choices_98 rfl trivial (xo_0 dX10_choices_99 rfl trivial (xo_0 dX10_choices_100 rfl trivial (xo_1 dX10_choices_101 rfl (xm_fg_of (Or.inl q668) (by decide) rfl (by decide) rfl rfl (Or.inl rfl) rfl) (xo_0 dX10_choices_104 rfl trivial (xo_0 dX10_choices_105 rfl trivial (xo_0 dX10_choices_106 rfl trivial (xo_1 dX10_choices_107 rfl (xm_fg_of (Or.inl q676) (by decide) rfl (by decide) rfl rfl (Or.inl rfl) rfl) (xo_1 dX10_choices_110 rfl (xm_fg_of (Or.inr ⟨_, q717⟩) (by decide) rfl (by decide) rfl rfl (Or.inl rfl) rfl) (xo_0 dX10_choices_113 rfl (xm_fg_of (Or.inr ⟨_, q563⟩) (by decide) rfl (by decide) rfl rfl (Or.inl rfl) rfl) (xo_0 dX10_choices_116 rfl trivial (xo_c rfl (xc_max dX10_choices_117 q905 (by decide)) (xo_0 dX10_choices_120 rfl trivial (xo_n)))))))))))))))))))))))))
theorem oX10_choices_121  : xm_okb cI RX10 cX10_choices false 162 lX10_choices bX10_choices_121 121 := xo_0 dX10_choices_121 rfl trivial (xo_0 dX10_choices_124 rfl rfl (xo_n))
theorem oX10_choices_127  : xm_okb cI RX10 cX10_choices false 162 lX10_choices bX10_choices_127 127 := xo_0 dX10_choices_127 rfl trivial (xo_n)
theorem oX10_choices  : ∀ q ∈ kX10_choices, xm_okb cI RX10 cX10_choices false 162 lX10_choices q.2 q.1 := by
  intro q hq
  simp only [List.mem_cons, List.not_mem_nil, or_false] at hq
  rcases hq with rfl | rfl | rfl | rfl | rfl | rfl | rfl | rfl | rfl | rfl
  · exact oX10_choices_0  
  · exact oX10_choices_2  
  · exact oX10_choices_16  
  · exact oX10_choices_38  
  · exact oX10_choices_61  
  · exact oX10_choices_64  
  · exact oX10_choices_70  
  · exact oX10_choices_72  
  · exact oX10_choices_121  
  · exact oX10_choices_127  
def S_X10_choices : xS := cU fun as P X I Q QX => ∃ r L, as = [.ref r] ∧ c_ts P X I r L ∧ ∀ J, c_sc r I J → c_ts P X J r L → cA J r = g_wears (cK I L) (c_p I) (g_fills (cK I L) (c_p I) (cA I r)) → Q none J
theorem body_X10_choices : xm_Body 3 2 0 0 [] lX10_choices kX10_choices S_X10_choices := by
  intro X avs w Q QX hX0 hS
  have hG := xm_go [] hX0
  have hX := xm_go [2, 16, 38, 61, 64, 72, 121] hX0
  clear hX0
  obtain ⟨P, Z, I, rfl, r, L, rfl, ht, hQ⟩ := hS
  obtain ⟨hn, h9, hm, h8⟩ := id ht.2.1
  have hr := ht.1
  have hrn := hr.ne
  have l4 : ∀ T o, (o = none ∨ ∃ z, o = some (.int z)) → (∀ J, c_sc r I J → c_ts P Z J r L → cA J r = g_wears (cK I L) (c_p I) T → Q none (cW P Z J)) → ∀ k, k ≤ c_p I → ∀ J, c_sc r I J → c_ts P Z J r L → cA J r = g_wears (cK I L) k T → X 72 [some (.ref r), some (.int (nI k)), o] [] (cW P Z J) 0 0 := by
    intro T o ho hQ
    refine t_for fun k h1 ih J hJ hts hA => ?_
    have hmJ : J 1 12 = nI (c_p I) := by rw [hJ.e1 hr]; exact hm
    have x121 : k < c_p I → ∀ N, c_sc r I N → c_ts P Z N r L → cA N r = g_wears (cK I L) (k + 1) T → X 121 [some (.ref r), some (.int (nI k)), o] [] (cW P Z N) 0 0 := by
      intro hk N n1 n2 n3
      have := ih (k + 1) (by omega) (by omega) N n1 n2 n3
      clear ih
      rcases ho with rfl | ⟨z, rfl⟩
      all_goals
        refine hG _ _ _ _ _ _ ?_
        (conv => whnf)
        repeat' (first
          | ((with_reducible refine @And.intro (vp_in _ _) _ ?_ ?_); (· (first | with_reducible assumption | ((with_reducible refine t_vin ?_); decide) | ((with_reducible refine vp_in_nI ?_ ?_) <;> first | omega | decide) | (simp (disch := omega) only [xl_n, xl_m, nI_dec, nI_sb, nI_add, pk_mul]; (with_reducible refine vp_in_nI ?_ ?_) <;> first | omega | decide))); (conv => whnf))
          | (refine And.intro (by first | with_reducible assumption | exact (show cL _ _ = _ from rfl) | decide) ?_; (conv => whnf))
          | ((with_reducible refine @And.intro (_ = _) _ ?_ ?_); (· rfl); (conv => whnf))
          | ((with_reducible refine @And.intro (@LE.le Nat _ _ _) _ ?_ ?_); (· (first | exact Nat.zero_le _ | exact Nat.le_of_ble_eq_true rfl | omega)); (conv => whnf))
          | ((with_reducible refine @And.intro (@LT.lt Nat _ _ _) _ ?_ ?_); (· omega); (conv => whnf))
          | ((with_reducible refine @And.intro (∃ _, _ = _) _ ?_ ?_); (· exact ⟨_, rfl⟩); (conv => whnf))
          | ((with_reducible refine @And.intro (_ ∨ _) _ ?_ ?_); (· (first | exact Or.inl rfl | exact Or.inr rfl | exact t_b01 _ | assumption)); (conv => whnf))
          | ((with_reducible refine @And.intro (¬ (_ = _)) _ ?_ ?_); (· first | assumption | (with_reducible assumption)); (conv => whnf))
          | (refine hX _ _ _ _ _ _ ?_; (conv => whnf); fail_if_success show False)
          | (rw [c_si]; (conv => whnf))
          | (refine ⟨_, rfl, ?_⟩; (conv => whnf))
          | (refine ⟨_, _, rfl, ?_⟩; (conv => whnf))
          | (refine ⟨_, _, _, rfl, ?_⟩; (conv => whnf))
          | (refine ⟨_, _, _, _, rfl, ?_⟩; (conv => whnf))
          | (refine And.intro (fun c => ?_) (fun c => ?_) <;> (first | (exact absurd c (by decide +kernel)) | (conv => whnf)))
          | fail)
        clear hX hG
        simp (disch := omega) only [xl_n, xl_m, nI_dec, nI_sb, xl_0, xl_1, cW_i, Nat.add_zero, Nat.reduceAdd, Nat.reduceMul, t_bn0, t_bn1, Classical.not_not, t_lt, nI_add, nI_1, pk_mul, nI_clamp, c_si, nI_eq, nI_leI, nM_ne, nM_ne, xm_set] at *
        exact this
    clear ih
    rcases ho with rfl | ⟨z, rfl⟩
    all_goals
      refine hG _ _ _ _ _ _ ?_
      (conv => whnf)
      repeat' (first
        | ((with_reducible refine @And.intro (vp_in _ _) _ ?_ ?_); (· (first | with_reducible assumption | ((with_reducible refine t_vin ?_); decide) | ((with_reducible refine vp_in_nI ?_ ?_) <;> first | omega | decide) | (simp (disch := omega) only [xl_n, xl_m, nI_dec, nI_sb, nI_add, pk_mul]; (with_reducible refine vp_in_nI ?_ ?_) <;> first | omega | decide))); (conv => whnf))
        | (refine And.intro (by first | with_reducible assumption | exact (show cL _ _ = _ from rfl) | decide) ?_; (conv => whnf))
        | ((with_reducible refine @And.intro (_ = _) _ ?_ ?_); (· rfl); (conv => whnf))
        | ((with_reducible refine @And.intro (@LE.le Nat _ _ _) _ ?_ ?_); (· (first | exact Nat.zero_le _ | exact Nat.le_of_ble_eq_true rfl | omega)); (conv => whnf))
        | ((with_reducible refine @And.intro (@LT.lt Nat _ _ _) _ ?_ ?_); (· omega); (conv => whnf))
        | ((with_reducible refine @And.intro (∃ _, _ = _) _ ?_ ?_); (· exact ⟨_, rfl⟩); (conv => whnf))
        | ((with_reducible refine @And.intro (_ ∨ _) _ ?_ ?_); (· (first | exact Or.inl rfl | exact Or.inr rfl | exact t_b01 _ | assumption)); (conv => whnf))
        | ((with_reducible refine @And.intro (¬ (_ = _)) _ ?_ ?_); (· first | assumption | (with_reducible assumption)); (conv => whnf))
        | (refine hX _ _ _ _ _ _ ?_; (conv => whnf); fail_if_success show False)
        | (rw [c_si]; (conv => whnf))
        | (refine ⟨_, rfl, ?_⟩; (conv => whnf))
        | (refine ⟨_, _, rfl, ?_⟩; (conv => whnf))
        | (refine ⟨_, _, _, rfl, ?_⟩; (conv => whnf))
        | (refine ⟨_, _, _, _, rfl, ?_⟩; (conv => whnf))
        | (rw [c_tl hr]; (conv => whnf))
        | (rw [c_t7 hr]; (conv => whnf))
        | (rw [c_tf hr (by decide)]; (conv => whnf))
        | (rw [c_t0 hr]; (conv => whnf))
        | (rw [c_t1 hr]; (conv => whnf))
        | (rw [c_t2 hr]; (conv => whnf))
        | (rw [c_t3 hr]; (conv => whnf))
        | (rw [c_t4 hr]; (conv => whnf))
        | (rw [c_t5 hr]; (conv => whnf))
        | (refine And.intro ⟨_, c_tl hr⟩ ?_; (conv => whnf))
        | fail)
      refine And.intro (fun c => ?_) (fun c => ?_) <;> (conv => whnf)
      · have : k = c_p I := Nat.le_antisymm h1 (t_kge hmJ c (by omega) (by omega))
        subst this
        have fin := hQ J hJ hts hA
        clear x121
        repeat' (first
          | ((with_reducible refine @And.intro (vp_in _ _) _ ?_ ?_); (· (first | with_reducible assumption | ((with_reducible refine t_vin ?_); decide) | ((with_reducible refine vp_in_nI ?_ ?_) <;> first | omega | decide) | (simp (disch := omega) only [xl_n, xl_m, nI_dec, nI_sb, nI_add, pk_mul]; (with_reducible refine vp_in_nI ?_ ?_) <;> first | omega | decide))); (conv => whnf))
          | (refine And.intro (by first | with_reducible assumption | exact (show cL _ _ = _ from rfl) | decide) ?_; (conv => whnf))
          | ((with_reducible refine @And.intro (_ = _) _ ?_ ?_); (· rfl); (conv => whnf))
          | ((with_reducible refine @And.intro (@LE.le Nat _ _ _) _ ?_ ?_); (· (first | exact Nat.zero_le _ | exact Nat.le_of_ble_eq_true rfl | omega)); (conv => whnf))
          | ((with_reducible refine @And.intro (@LT.lt Nat _ _ _) _ ?_ ?_); (· omega); (conv => whnf))
          | ((with_reducible refine @And.intro (∃ _, _ = _) _ ?_ ?_); (· exact ⟨_, rfl⟩); (conv => whnf))
          | ((with_reducible refine @And.intro (_ ∨ _) _ ?_ ?_); (· (first | exact Or.inl rfl | exact Or.inr rfl | exact t_b01 _ | assumption)); (conv => whnf))
          | ((with_reducible refine @And.intro (¬ (_ = _)) _ ?_ ?_); (· first | assumption | (with_reducible assumption)); (conv => whnf))
          | (refine hX _ _ _ _ _ _ ?_; (conv => whnf); fail_if_success show False)
          | (rw [c_si]; (conv => whnf))
          | (refine ⟨_, rfl, ?_⟩; (conv => whnf))
          | (refine ⟨_, _, rfl, ?_⟩; (conv => whnf))
          | (refine ⟨_, _, _, rfl, ?_⟩; (conv => whnf))
          | (refine ⟨_, _, _, _, rfl, ?_⟩; (conv => whnf))
          | (refine And.intro (fun c => ?_) (fun c => ?_) <;> (first | (exact absurd c (by decide +kernel)) | (conv => whnf)))
          | fail)
        exact fin
      · have hk : k < c_p I := t_klt hmJ c (by omega)
        have x121 := x121 hk
        have hm9 : t_m9 (J (10 * r + 1) k) := by
          have := (hts.2.2.2.1 k).1
          rw [cA_gw (by omega)] at this
          exact this
        have eg : t_more (nI 0) (J 36 k - t_ones (J (10 * r + 1) k)) = g_lack (cK I L) (cA J r) k := by
          unfold g_lack
          rw [cA_gw (by omega), cK_needs hk, hJ 36 (by decide) (by omega) (by omega)]
        rw [g_wears_s, ← hA] at x121
        have nx := fun (q : ¬ g_lack (cK I L) (cA J r) k = nI 0) => x121 J hJ hts (if_neg q).symm
        have nw := fun (q : g_lack (cK I L) (cA J r) k = nI 0) => x121 (xm_u2 J (10 * r + 3) k (t_more (nI 0) (J (10 * r + 3) k - J 1 13))) (hJ.tr (c_sc.u (by omega))) (hts.up (c_sc.u (by omega)) (funext fun i => xm_u2_ne (by omega) i) (xm_u2_ne (by omega) _) (by rw [cA_s (by omega) (by omega)]; exact hts.2.2.2.1)) (by rw [if_pos q, cA_s (by omega) (by omega), cA_gs (by omega), cK_wear, hJ.e1 hr])
        clear x121
        repeat' (first
          | ((with_reducible refine @And.intro (vp_in _ _) _ ?_ ?_); (· (first | with_reducible assumption | ((with_reducible refine t_vin ?_); decide) | ((with_reducible refine vp_in_nI ?_ ?_) <;> first | omega | decide) | (simp (disch := omega) only [xl_n, xl_m, nI_dec, nI_sb, nI_add, pk_mul]; (with_reducible refine vp_in_nI ?_ ?_) <;> first | omega | decide))); (conv => whnf))
          | (refine And.intro (by first | with_reducible assumption | exact (show cL _ _ = _ from rfl) | decide) ?_; (conv => whnf))
          | ((with_reducible refine @And.intro (_ = _) _ ?_ ?_); (· rfl); (conv => whnf))
          | ((with_reducible refine @And.intro (@LE.le Nat _ _ _) _ ?_ ?_); (· (first | exact Nat.zero_le _ | exact Nat.le_of_ble_eq_true rfl | omega)); (conv => whnf))
          | ((with_reducible refine @And.intro (@LT.lt Nat _ _ _) _ ?_ ?_); (· omega); (conv => whnf))
          | ((with_reducible refine @And.intro (∃ _, _ = _) _ ?_ ?_); (· exact ⟨_, rfl⟩); (conv => whnf))
          | ((with_reducible refine @And.intro (_ ∨ _) _ ?_ ?_); (· (first | exact Or.inl rfl | exact Or.inr rfl | exact t_b01 _ | assumption)); (conv => whnf))
          | ((with_reducible refine @And.intro (¬ (_ = _)) _ ?_ ?_); (· first | assumption | (with_reducible assumption)); (conv => whnf))
          | (refine hX _ _ _ _ _ _ ?_; (conv => whnf); fail_if_success show False)
          | (rw [c_si]; simp (disch := omega) only [xl_n, xl_m, nI_dec, nI_sb, xl_0, xl_1, cW_i, Nat.add_zero, Nat.reduceAdd, Nat.reduceMul, t_bn0, t_bn1, Classical.not_not, t_lt, nI_add, nI_1, pk_mul, nI_clamp, c_si, nI_eq, nI_leI, nM_ne, nM_ne, xm_u2_ne, xm_u2_at, reduceIte, Nat.reduceEqDiff]; (conv => whnf))
          | (refine ⟨_, rfl, ?_⟩; (conv => whnf))
          | (refine ⟨_, _, rfl, ?_⟩; (conv => whnf))
          | (refine ⟨_, _, _, rfl, ?_⟩; (conv => whnf))
          | (refine ⟨_, _, _, _, rfl, ?_⟩; (conv => whnf))
          | (refine ⟨r,k,rfl,hr,(by omega),hm9,?_⟩; (conv => whnf))
          | (rw [eg]; (conv => whnf))
          | (rw [c_tl hr]; (conv => whnf))
          | (rw [c_t7 hr]; (conv => whnf))
          | (rw [c_tf hr (by decide)]; (conv => whnf))
          | (rw [c_t0 hr]; (conv => whnf))
          | (rw [c_t1 hr]; (conv => whnf))
          | (rw [c_t2 hr]; (conv => whnf))
          | (rw [c_t3 hr]; (conv => whnf))
          | (rw [c_t4 hr]; (conv => whnf))
          | (rw [c_t5 hr]; (conv => whnf))
          | (refine And.intro ⟨_, c_tl hr⟩ ?_; (conv => whnf))
          | (refine And.intro (fun c => ?_) (fun c => ?_) <;> (first | (exact absurd c (by decide +kernel)) | (conv => whnf)))
          | fail)
        · exact nx c
        · exact nw (Classical.not_not.mp c)
  have l3 : ∀ k, k ≤ c_p I → ∀ J o, (o = none ∨ ∃ z, o = some (.int z)) → c_sc r I J → c_ts P Z J r L → cA J r = g_fills (cK I L) k (cA I r) → X 2 [some (.ref r), some (.int (nI k)), o] [] (cW P Z J) 0 0 := by
    refine t_for fun k h1 ih J o ho hJ hts hA => ?_
    have x64 : k < c_p I → ∀ J o, (o = none ∨ ∃ z, o = some (.int z)) → c_sc r I J → c_ts P Z J r L → cA J r = g_fills (cK I L) (k + 1) (cA I r) → X 64 [some (.ref r), some (.int (nI k)), o] [] (cW P Z J) 0 0 := by
      intro hk N o ho n1 n2 n3
      have := ih (k + 1) (by omega) (by omega) N o ho n1 n2 n3
      clear ih
      rcases ho with rfl | ⟨z, rfl⟩
      all_goals
        refine hG _ _ _ _ _ _ ?_
        (conv => whnf)
        repeat' (first
          | ((with_reducible refine @And.intro (vp_in _ _) _ ?_ ?_); (· (first | with_reducible assumption | ((with_reducible refine t_vin ?_); decide) | ((with_reducible refine vp_in_nI ?_ ?_) <;> first | omega | decide) | (simp (disch := omega) only [xl_n, xl_m, nI_dec, nI_sb, nI_add, pk_mul]; (with_reducible refine vp_in_nI ?_ ?_) <;> first | omega | decide))); (conv => whnf))
          | (refine And.intro (by first | with_reducible assumption | exact (show cL _ _ = _ from rfl) | decide) ?_; (conv => whnf))
          | ((with_reducible refine @And.intro (_ = _) _ ?_ ?_); (· rfl); (conv => whnf))
          | ((with_reducible refine @And.intro (@LE.le Nat _ _ _) _ ?_ ?_); (· (first | exact Nat.zero_le _ | exact Nat.le_of_ble_eq_true rfl | omega)); (conv => whnf))
          | ((with_reducible refine @And.intro (@LT.lt Nat _ _ _) _ ?_ ?_); (· omega); (conv => whnf))
          | ((with_reducible refine @And.intro (∃ _, _ = _) _ ?_ ?_); (· exact ⟨_, rfl⟩); (conv => whnf))
          | ((with_reducible refine @And.intro (_ ∨ _) _ ?_ ?_); (· (first | exact Or.inl rfl | exact Or.inr rfl | exact t_b01 _ | assumption)); (conv => whnf))
          | ((with_reducible refine @And.intro (¬ (_ = _)) _ ?_ ?_); (· first | assumption | (with_reducible assumption)); (conv => whnf))
          | (refine hX _ _ _ _ _ _ ?_; (conv => whnf); fail_if_success show False)
          | (rw [c_si]; (conv => whnf))
          | (refine ⟨_, rfl, ?_⟩; (conv => whnf))
          | (refine ⟨_, _, rfl, ?_⟩; (conv => whnf))
          | (refine ⟨_, _, _, rfl, ?_⟩; (conv => whnf))
          | (refine ⟨_, _, _, _, rfl, ?_⟩; (conv => whnf))
          | (refine And.intro (fun c => ?_) (fun c => ?_) <;> (first | (exact absurd c (by decide +kernel)) | (conv => whnf)))
          | fail)
        clear hX hG
        simp (disch := omega) only [xl_n, xl_m, nI_dec, nI_sb, xl_0, xl_1, cW_i, Nat.add_zero, Nat.reduceAdd, Nat.reduceMul, t_bn0, t_bn1, Classical.not_not, t_lt, nI_add, nI_1, pk_mul, nI_clamp, c_si, nI_eq, nI_leI, nM_ne, nM_ne, xm_set] at *
        exact this
    clear ih
    have inner : k < c_p I → ∀ f J o, (o = none ∨ ∃ z, o = some (.int z)) → c_sc r I J → c_ts P Z J r L → t_nu (gw (cA J r) k) 9 < f → g_fill (cK I L) k f (cA J r) = g_fills (cK I L) (k + 1) (cA I r) → X 16 [some (.ref r), some (.int (nI k)), o] [] (cW P Z J) 0 0 := by
      intro hk f
      have x64 := x64 hk
      induction f with
      | zero => intro J o _ _ _ q; omega
      | succ f ihf =>
        intro J o ho hJ hts hnu hF
        have eK := hJ.K (L := L) hr
        have hF : (if g_lack (cK I L) (cA J r) k ≤ nI 0 then cA J r else match g_chosen (cK I L) (cA J r) k with | none => cA J r | some h => g_fill (cK I L) k f (g_take (cA J r) k h)) = g_fills (cK I L) (k + 1) (cA I r) := hF
        have hm9 : t_m9 (J (10 * r + 1) k) := by
          have := (hts.2.2.2.1 k).1
          rw [cA_gw (by omega)] at this
          exact this
        have eg : t_more (nI 0) (J 36 k - t_ones (J (10 * r + 1) k)) = g_lack (cK I L) (cA J r) k := by
          unfold g_lack
          rw [cA_gw (by omega), cK_needs hk, hJ 36 (by decide) (by omega) (by omega)]
        have hkJ : k < c_p J := by rw [(hJ.h hr).2]; exact hk
        have x64a : g_lack (cK I L) (cA J r) k ≤ nI 0 → X 64 [some (.ref r), some (.int (nI k)), o] [] (cW P Z J) 0 0 := fun q => x64 J o ho hJ hts (by rw [← hF, if_pos q])
        have mid : ∀ M, c_fa J M → ¬ g_lack (cK I L) (cA J r) k ≤ nI 0 → (g_chosen (cK I L) (cA J r) k = none → X 64 [some (.ref r), some (.int (nI k)), some (.int nM)] [] (cW P Z M) 0 0) ∧ (∀ h, g_chosen (cK I L) (cA J r) k = some h → h < 9 ∧ X 38 [some (.ref r), some (.int (nI k)), some (.int (nI h))] [] (cW P Z M) 0 0) := by
          intro M hM hl
          have hIM : c_sc r I M := hJ.tr hM.sc
          have eA : cA M r = cA J r := hM.A hr
          have htM := hts.fa hM
          rw [if_neg hl] at hF
          constructor
          · intro q
            rw [q] at hF
            exact x64 M _ (Or.inr ⟨_, rfl⟩) hIM htM (by rw [eA]; exact hF)
          · intro h q
            rw [q] at hF
            have hF : g_fill (cK I L) k f (g_take (cA J r) k h) = _ := hF
            have hmay := g_best_may q
            have hlt : h < c_h I := g_best_lt q
            have hh9 : h < 9 := by omega
            have hnot : t_has (gw (cA J r) k) h = false := by
              unfold g_may at hmay
              simp at hmay
              exact hmay.1.1.2
            refine ⟨hh9, ?_⟩
            obtain ⟨N, hN⟩ : ∃ N, N = xm_u2 (xm_u2 M (10 * r + 1) k (M (10 * r + 1) k ||| t_bit h)) (10 * r + 4) (8 * h + k) (M r 6) := ⟨_, rfl⟩
            have hMN : c_sc r M N := by rw [hN]; exact (c_sc.u (by omega)).tr (c_sc.u (by omega))
            have eN : cA N r = g_begin (cA J r) k h := by
              rw [hN, cA_i (by omega) hh9 (by omega), cA_w (by omega) (by omega), ← eA, ← cA_gw (I := M) (r := r) (p := k) (by omega)]
              rfl
            have hN0 : N (10 * r) = M (10 * r) := by rw [hN]; exact funext fun i => by rw [xm_u2_ne (by omega), xm_u2_ne (by omega)]
            have hN6 : N r 6 = M r 6 := by rw [hN, xm_u2_ne (by omega), xm_u2_ne (by omega)]
            have x61 : ∀ v, v = (if N (10 * r + 5) h = nM then nI k else N (10 * r + 5) h) → ∀ O, c_sc r N O → O (10 * r) = N (10 * r) → O r 6 = N r 6 → cA O r = g_cho (cA N r) h v → X 61 [some (.ref r), some (.int (nI k)), some (.int (nI h))] [] (cW P Z O) 0 0 := by
              intro v ev O o1 o2 o3 o4
              have eT : cA O r = g_take (cA J r) k h := by
                rw [o4, eN, g_take, ← eN, cA_gc hh9, ev]
              have hIO := hMN.tr o1
              have := ihf O (some (.int (nI h))) (Or.inr ⟨_, rfl⟩) (hIM.tr hIO) (htM.up hIO (o2.trans hN0) (o3.trans hN6) (by rw [eT]; exact g_w_take hts.2.2.2.1 hh9)) (by
                rw [eT]
                have : gw (g_take (cA J r) k h) k = gw (cA J r) k ||| t_bit h := by
                  show g_upd _ k _ k = _
                  rw [g_upd, if_pos rfl]
                rw [this]
                have := t_nu_l hnot 9 (by omega) hh9
                omega) (by rw [eT]; exact hF)
              clear ihf
              refine hG _ _ _ _ _ _ ?_
              (conv => whnf)
              repeat' (first
                | ((with_reducible refine @And.intro (vp_in _ _) _ ?_ ?_); (· (first | with_reducible assumption | ((with_reducible refine t_vin ?_); decide) | ((with_reducible refine vp_in_nI ?_ ?_) <;> first | omega | decide) | (simp (disch := omega) only [xl_n, xl_m, nI_dec, nI_sb, nI_add, pk_mul]; (with_reducible refine vp_in_nI ?_ ?_) <;> first | omega | decide))); (conv => whnf))
                | (refine And.intro (by first | with_reducible assumption | exact (show cL _ _ = _ from rfl) | decide) ?_; (conv => whnf))
                | ((with_reducible refine @And.intro (_ = _) _ ?_ ?_); (· rfl); (conv => whnf))
                | ((with_reducible refine @And.intro (@LE.le Nat _ _ _) _ ?_ ?_); (· (first | exact Nat.zero_le _ | exact Nat.le_of_ble_eq_true rfl | omega)); (conv => whnf))
                | ((with_reducible refine @And.intro (@LT.lt Nat _ _ _) _ ?_ ?_); (· omega); (conv => whnf))
                | ((with_reducible refine @And.intro (∃ _, _ = _) _ ?_ ?_); (· exact ⟨_, rfl⟩); (conv => whnf))
                | ((with_reducible refine @And.intro (_ ∨ _) _ ?_ ?_); (· (first | exact Or.inl rfl | exact Or.inr rfl | exact t_b01 _ | assumption)); (conv => whnf))
                | ((with_reducible refine @And.intro (¬ (_ = _)) _ ?_ ?_); (· first | assumption | (with_reducible assumption)); (conv => whnf))
                | (refine hX _ _ _ _ _ _ ?_; (conv => whnf); fail_if_success show False)
                | (rw [c_si]; (conv => whnf))
                | (refine ⟨_, rfl, ?_⟩; (conv => whnf))
                | (refine ⟨_, _, rfl, ?_⟩; (conv => whnf))
                | (refine ⟨_, _, _, rfl, ?_⟩; (conv => whnf))
                | (refine ⟨_, _, _, _, rfl, ?_⟩; (conv => whnf))
                | (refine And.intro (fun c => ?_) (fun c => ?_) <;> (first | (exact absurd c (by decide +kernel)) | (conv => whnf)))
                | fail)
              exact this
            have fa : ¬ N (10 * r + 5) h = nM → X 61 [some (.ref r), some (.int (nI k)), some (.int (nI h))] [] (cW P Z N) 0 0 := fun q => x61 _ rfl N c_sc.rf rfl rfl (by rw [if_neg q, ← cA_gc (I := N) (r := r) (h := h) hh9, g_cho_id])
            have fb : N (10 * r + 5) h = nM → X 61 [some (.ref r), some (.int (nI k)), some (.int (nI h))] [] (cW P Z (xm_u2 N (10 * r + 5) h (nI k))) 0 0 := fun q => x61 _ rfl _ (c_sc.u (by omega)) (funext fun i => xm_u2_ne (by omega) i) (xm_u2_ne (by omega) _) (by rw [if_pos q, cA_c (by omega) hh9])
            clear x61 ihf
            have ek : (nI h).toNatClampNeg = h := nI_clamp (by omega)
            refine hG _ _ _ _ _ _ ?_
            (conv => whnf)
            repeat' (first
              | ((with_reducible refine @And.intro (vp_in _ _) _ ?_ ?_); (· (first | with_reducible assumption | ((with_reducible refine t_vin ?_); decide) | ((with_reducible refine vp_in_nI ?_ ?_) <;> first | omega | decide) | (simp (disch := omega) only [xl_n, xl_m, nI_dec, nI_sb, nI_add, pk_mul]; (with_reducible refine vp_in_nI ?_ ?_) <;> first | omega | decide))); (conv => whnf))
              | (refine And.intro (by first | with_reducible assumption | exact (show cL _ _ = _ from rfl) | decide) ?_; (conv => whnf))
              | ((with_reducible refine @And.intro (_ = _) _ ?_ ?_); (· rfl); (conv => whnf))
              | ((with_reducible refine @And.intro (@LE.le Nat _ _ _) _ ?_ ?_); (· (first | exact Nat.zero_le _ | exact Nat.le_of_ble_eq_true rfl | omega)); (conv => whnf))
              | ((with_reducible refine @And.intro (@LT.lt Nat _ _ _) _ ?_ ?_); (· omega); (conv => whnf))
              | ((with_reducible refine @And.intro (∃ _, _ = _) _ ?_ ?_); (· exact ⟨_, rfl⟩); (conv => whnf))
              | ((with_reducible refine @And.intro (_ ∨ _) _ ?_ ?_); (· (first | exact Or.inl rfl | exact Or.inr rfl | exact t_b01 _ | assumption)); (conv => whnf))
              | ((with_reducible refine @And.intro (¬ (_ = _)) _ ?_ ?_); (· first | assumption | (with_reducible assumption)); (conv => whnf))
              | (refine hX _ _ _ _ _ _ ?_; (conv => whnf); fail_if_success show False)
              | (rw [c_si]; simp (disch := omega) only [xl_n, xl_m, nI_dec, nI_sb, xl_0, xl_1, cW_i, Nat.add_zero, Nat.reduceAdd, Nat.reduceMul, t_bn0, t_bn1, Classical.not_not, t_lt, nI_add, nI_1, pk_mul, nI_clamp, c_si, nI_eq, nI_leI, nM_ne, nM_ne, xm_u2_ne, xm_u2_at, reduceIte, Nat.reduceEqDiff]; (conv => whnf))
              | (refine ⟨_, rfl, ?_⟩; (conv => whnf))
              | (refine ⟨_, _, rfl, ?_⟩; (conv => whnf))
              | (refine ⟨_, _, _, rfl, ?_⟩; (conv => whnf))
              | (refine ⟨_, _, _, _, rfl, ?_⟩; (conv => whnf))
              | (refine ⟨r,k,h,rfl,hr,(by omega),hh9,?_⟩; (conv => whnf))
              | (rw [← hN]; (conv => whnf))
              | (rw [c_tl hr]; (conv => whnf))
              | (rw [c_t7 hr]; (conv => whnf))
              | (rw [c_tf hr (by decide)]; (conv => whnf))
              | (rw [c_t0 hr]; (conv => whnf))
              | (rw [c_t1 hr]; (conv => whnf))
              | (rw [c_t2 hr]; (conv => whnf))
              | (rw [c_t3 hr]; (conv => whnf))
              | (rw [c_t4 hr]; (conv => whnf))
              | (rw [c_t5 hr]; (conv => whnf))
              | (refine And.intro ⟨_, c_tl hr⟩ ?_; (conv => whnf))
              | (refine And.intro (fun c => ?_) (fun c => ?_) <;> (first | (exact absurd c (by decide +kernel)) | (conv => whnf)))
              | fail)
            · refine fa ?_
              have c1 : ¬ N (10 * r + 5) (nI h).toNatClampNeg = nM := c
              rw [ek] at c1
              exact c1
            · refine fb ?_
              have c1 : ¬ ¬ N (10 * r + 5) (nI h).toNatClampNeg = nM := c
              rw [ek] at c1
              exact Classical.not_not.mp c1
        clear x64 ihf
        rcases ho with rfl | ⟨z, rfl⟩
        all_goals
          refine hG _ _ _ _ _ _ ?_
          (conv => whnf)
          repeat' (first
            | ((with_reducible refine @And.intro (vp_in _ _) _ ?_ ?_); (· (first | with_reducible assumption | ((with_reducible refine t_vin ?_); decide) | ((with_reducible refine vp_in_nI ?_ ?_) <;> first | omega | decide) | (simp (disch := omega) only [xl_n, xl_m, nI_dec, nI_sb, nI_add, pk_mul]; (with_reducible refine vp_in_nI ?_ ?_) <;> first | omega | decide))); (conv => whnf))
            | (refine And.intro (by first | with_reducible assumption | exact (show cL _ _ = _ from rfl) | decide) ?_; (conv => whnf))
            | ((with_reducible refine @And.intro (_ = _) _ ?_ ?_); (· rfl); (conv => whnf))
            | ((with_reducible refine @And.intro (@LE.le Nat _ _ _) _ ?_ ?_); (· (first | exact Nat.zero_le _ | exact Nat.le_of_ble_eq_true rfl | omega)); (conv => whnf))
            | ((with_reducible refine @And.intro (@LT.lt Nat _ _ _) _ ?_ ?_); (· omega); (conv => whnf))
            | ((with_reducible refine @And.intro (∃ _, _ = _) _ ?_ ?_); (· exact ⟨_, rfl⟩); (conv => whnf))
            | ((with_reducible refine @And.intro (_ ∨ _) _ ?_ ?_); (· (first | exact Or.inl rfl | exact Or.inr rfl | exact t_b01 _ | assumption)); (conv => whnf))
            | ((with_reducible refine @And.intro (¬ (_ = _)) _ ?_ ?_); (· first | assumption | (with_reducible assumption)); (conv => whnf))
            | (refine hX _ _ _ _ _ _ ?_; (conv => whnf); fail_if_success show False)
            | (rw [c_si]; (conv => whnf))
            | (refine ⟨_, rfl, ?_⟩; (conv => whnf))
            | (refine ⟨_, _, rfl, ?_⟩; (conv => whnf))
            | (refine ⟨_, _, _, rfl, ?_⟩; (conv => whnf))
            | (refine ⟨_, _, _, _, rfl, ?_⟩; (conv => whnf))
            | (refine ⟨r,k,rfl,hr,(by omega),hm9,?_⟩; (conv => whnf))
            | (rw [eg]; (conv => whnf))
            | (refine ⟨r,k,L,rfl,hr,hts.2.1,hkJ,hts.2.2.1,hts.2.2.2.2,hts.2.2.2.1,?_⟩; (conv => whnf))
            | (rw [c_tl hr]; (conv => whnf))
            | (rw [c_t7 hr]; (conv => whnf))
            | (rw [c_tf hr (by decide)]; (conv => whnf))
            | (rw [c_t0 hr]; (conv => whnf))
            | (rw [c_t1 hr]; (conv => whnf))
            | (rw [c_t2 hr]; (conv => whnf))
            | (rw [c_t3 hr]; (conv => whnf))
            | (rw [c_t4 hr]; (conv => whnf))
            | (rw [c_t5 hr]; (conv => whnf))
            | (refine And.intro ⟨_, c_tl hr⟩ ?_; (conv => whnf))
            | (refine And.intro (fun c => ?_) (fun c => ?_) <;> (first | (exact absurd c (by decide +kernel)) | (conv => whnf)))
            | fail)
          · exact x64a c
          · intro M hM
            obtain ⟨m1, m2⟩ := mid M hM c
            rw [eK]
            rcases hch : g_chosen (cK I L) (cA J r) k with _ | h
            · have fin := m1 hch
              clear mid m1 m2 x64a
              (conv => whnf)
              repeat' (first
                | ((with_reducible refine @And.intro (vp_in _ _) _ ?_ ?_); (· (first | with_reducible assumption | ((with_reducible refine t_vin ?_); decide) | ((with_reducible refine vp_in_nI ?_ ?_) <;> first | omega | decide) | (simp (disch := omega) only [xl_n, xl_m, nI_dec, nI_sb, nI_add, pk_mul]; (with_reducible refine vp_in_nI ?_ ?_) <;> first | omega | decide))); (conv => whnf))
                | (refine And.intro (by first | with_reducible assumption | exact (show cL _ _ = _ from rfl) | decide) ?_; (conv => whnf))
                | ((with_reducible refine @And.intro (_ = _) _ ?_ ?_); (· rfl); (conv => whnf))
                | ((with_reducible refine @And.intro (@LE.le Nat _ _ _) _ ?_ ?_); (· (first | exact Nat.zero_le _ | exact Nat.le_of_ble_eq_true rfl | omega)); (conv => whnf))
                | ((with_reducible refine @And.intro (@LT.lt Nat _ _ _) _ ?_ ?_); (· omega); (conv => whnf))
                | ((with_reducible refine @And.intro (∃ _, _ = _) _ ?_ ?_); (· exact ⟨_, rfl⟩); (conv => whnf))
                | ((with_reducible refine @And.intro (_ ∨ _) _ ?_ ?_); (· (first | exact Or.inl rfl | exact Or.inr rfl | exact t_b01 _ | assumption)); (conv => whnf))
                | ((with_reducible refine @And.intro (¬ (_ = _)) _ ?_ ?_); (· first | assumption | (with_reducible assumption)); (conv => whnf))
                | (refine hX _ _ _ _ _ _ ?_; (conv => whnf); fail_if_success show False)
                | (rw [c_si]; (conv => whnf))
                | (refine ⟨_, rfl, ?_⟩; (conv => whnf))
                | (refine ⟨_, _, rfl, ?_⟩; (conv => whnf))
                | (refine ⟨_, _, _, rfl, ?_⟩; (conv => whnf))
                | (refine ⟨_, _, _, _, rfl, ?_⟩; (conv => whnf))
                | (refine And.intro (fun c => ?_) (fun c => ?_) <;> (first | (exact absurd c (by decide +kernel)) | (conv => whnf)))
                | fail)
              exact fin
            · have fin := (m2 h hch).2
              have hne : ¬ nI h = nM := nM_ne (by have := (m2 h hch).1; omega)
              clear mid m1 m2 x64a
              rw [show t_o (some h) = nI h from rfl]
              (conv => whnf)
              repeat' (first
                | ((with_reducible refine @And.intro (vp_in _ _) _ ?_ ?_); (· (first | with_reducible assumption | ((with_reducible refine t_vin ?_); decide) | ((with_reducible refine vp_in_nI ?_ ?_) <;> first | omega | decide) | (simp (disch := omega) only [xl_n, xl_m, nI_dec, nI_sb, nI_add, pk_mul]; (with_reducible refine vp_in_nI ?_ ?_) <;> first | omega | decide))); (conv => whnf))
                | (refine And.intro (by first | with_reducible assumption | exact (show cL _ _ = _ from rfl) | decide) ?_; (conv => whnf))
                | ((with_reducible refine @And.intro (_ = _) _ ?_ ?_); (· rfl); (conv => whnf))
                | ((with_reducible refine @And.intro (@LE.le Nat _ _ _) _ ?_ ?_); (· (first | exact Nat.zero_le _ | exact Nat.le_of_ble_eq_true rfl | omega)); (conv => whnf))
                | ((with_reducible refine @And.intro (@LT.lt Nat _ _ _) _ ?_ ?_); (· omega); (conv => whnf))
                | ((with_reducible refine @And.intro (∃ _, _ = _) _ ?_ ?_); (· exact ⟨_, rfl⟩); (conv => whnf))
                | ((with_reducible refine @And.intro (_ ∨ _) _ ?_ ?_); (· (first | exact Or.inl rfl | exact Or.inr rfl | exact t_b01 _ | assumption)); (conv => whnf))
                | ((with_reducible refine @And.intro (¬ (_ = _)) _ ?_ ?_); (· first | assumption | (with_reducible assumption)); (conv => whnf))
                | (refine hX _ _ _ _ _ _ ?_; (conv => whnf); fail_if_success show False)
                | (rw [c_si]; (conv => whnf))
                | (refine ⟨_, rfl, ?_⟩; (conv => whnf))
                | (refine ⟨_, _, rfl, ?_⟩; (conv => whnf))
                | (refine ⟨_, _, _, rfl, ?_⟩; (conv => whnf))
                | (refine ⟨_, _, _, _, rfl, ?_⟩; (conv => whnf))
                | (refine And.intro (fun c => ?_) (fun c => ?_) <;> (first | (exact absurd c (by decide +kernel)) | (conv => whnf)))
                | fail)
              · exact fin
              · exact absurd (Classical.not_not.mp (by assumption)) hne
    have fin : k = c_p I → X 72 [some (.ref r), some (.int (nI 0)), o] [] (cW P Z J) 0 0 := fun e => by
      subst e
      exact l4 (g_fills (cK I L) (c_p I) (cA I r)) o ho hQ 0 (Nat.zero_le _) J hJ hts hA
    have hmJ : J 1 12 = nI (c_p I) := by rw [hJ.e1 hr]; exact hm
    have go : k < c_p I → X 16 [some (.ref r), some (.int (nI k)), o] [] (cW P Z J) 0 0 := fun hk => inner hk 10 J o ho hJ hts (Nat.lt_succ_of_le (t_nu_le _ 9)) (by rw [hA, g_fills_s])
    clear inner x64 l4
    rcases ho with rfl | ⟨z, rfl⟩
    all_goals
      refine hG _ _ _ _ _ _ ?_
      (conv => whnf)
      repeat' (first
        | ((with_reducible refine @And.intro (vp_in _ _) _ ?_ ?_); (· (first | with_reducible assumption | ((with_reducible refine t_vin ?_); decide) | ((with_reducible refine vp_in_nI ?_ ?_) <;> first | omega | decide) | (simp (disch := omega) only [xl_n, xl_m, nI_dec, nI_sb, nI_add, pk_mul]; (with_reducible refine vp_in_nI ?_ ?_) <;> first | omega | decide))); (conv => whnf))
        | (refine And.intro (by first | with_reducible assumption | exact (show cL _ _ = _ from rfl) | decide) ?_; (conv => whnf))
        | ((with_reducible refine @And.intro (_ = _) _ ?_ ?_); (· rfl); (conv => whnf))
        | ((with_reducible refine @And.intro (@LE.le Nat _ _ _) _ ?_ ?_); (· (first | exact Nat.zero_le _ | exact Nat.le_of_ble_eq_true rfl | omega)); (conv => whnf))
        | ((with_reducible refine @And.intro (@LT.lt Nat _ _ _) _ ?_ ?_); (· omega); (conv => whnf))
        | ((with_reducible refine @And.intro (∃ _, _ = _) _ ?_ ?_); (· exact ⟨_, rfl⟩); (conv => whnf))
        | ((with_reducible refine @And.intro (_ ∨ _) _ ?_ ?_); (· (first | exact Or.inl rfl | exact Or.inr rfl | exact t_b01 _ | assumption)); (conv => whnf))
        | ((with_reducible refine @And.intro (¬ (_ = _)) _ ?_ ?_); (· first | assumption | (with_reducible assumption)); (conv => whnf))
        | (refine hX _ _ _ _ _ _ ?_; (conv => whnf); fail_if_success show False)
        | (rw [c_si]; (conv => whnf))
        | (refine ⟨_, rfl, ?_⟩; (conv => whnf))
        | (refine ⟨_, _, rfl, ?_⟩; (conv => whnf))
        | (refine ⟨_, _, _, rfl, ?_⟩; (conv => whnf))
        | (refine ⟨_, _, _, _, rfl, ?_⟩; (conv => whnf))
        | (rw [c_tl hr]; (conv => whnf))
        | (rw [c_t7 hr]; (conv => whnf))
        | (rw [c_tf hr (by decide)]; (conv => whnf))
        | (rw [c_t0 hr]; (conv => whnf))
        | (rw [c_t1 hr]; (conv => whnf))
        | (rw [c_t2 hr]; (conv => whnf))
        | (rw [c_t3 hr]; (conv => whnf))
        | (rw [c_t4 hr]; (conv => whnf))
        | (rw [c_t5 hr]; (conv => whnf))
        | (refine And.intro ⟨_, c_tl hr⟩ ?_; (conv => whnf))
        | fail)
      refine And.intro (fun c => ?_) (fun c => ?_) <;> (conv => whnf)
      · have fin := fin (Nat.le_antisymm h1 (t_kge hmJ c (by omega) (by omega)))
        clear go
        repeat' (first
          | ((with_reducible refine @And.intro (vp_in _ _) _ ?_ ?_); (· (first | with_reducible assumption | ((with_reducible refine t_vin ?_); decide) | ((with_reducible refine vp_in_nI ?_ ?_) <;> first | omega | decide) | (simp (disch := omega) only [xl_n, xl_m, nI_dec, nI_sb, nI_add, pk_mul]; (with_reducible refine vp_in_nI ?_ ?_) <;> first | omega | decide))); (conv => whnf))
          | (refine And.intro (by first | with_reducible assumption | exact (show cL _ _ = _ from rfl) | decide) ?_; (conv => whnf))
          | ((with_reducible refine @And.intro (_ = _) _ ?_ ?_); (· rfl); (conv => whnf))
          | ((with_reducible refine @And.intro (@LE.le Nat _ _ _) _ ?_ ?_); (· (first | exact Nat.zero_le _ | exact Nat.le_of_ble_eq_true rfl | omega)); (conv => whnf))
          | ((with_reducible refine @And.intro (@LT.lt Nat _ _ _) _ ?_ ?_); (· omega); (conv => whnf))
          | ((with_reducible refine @And.intro (∃ _, _ = _) _ ?_ ?_); (· exact ⟨_, rfl⟩); (conv => whnf))
          | ((with_reducible refine @And.intro (_ ∨ _) _ ?_ ?_); (· (first | exact Or.inl rfl | exact Or.inr rfl | exact t_b01 _ | assumption)); (conv => whnf))
          | ((with_reducible refine @And.intro (¬ (_ = _)) _ ?_ ?_); (· first | assumption | (with_reducible assumption)); (conv => whnf))
          | (refine hX _ _ _ _ _ _ ?_; (conv => whnf); fail_if_success show False)
          | (rw [c_si]; (conv => whnf))
          | (refine ⟨_, rfl, ?_⟩; (conv => whnf))
          | (refine ⟨_, _, rfl, ?_⟩; (conv => whnf))
          | (refine ⟨_, _, _, rfl, ?_⟩; (conv => whnf))
          | (refine ⟨_, _, _, _, rfl, ?_⟩; (conv => whnf))
          | (refine And.intro (fun c => ?_) (fun c => ?_) <;> (first | (exact absurd c (by decide +kernel)) | (conv => whnf)))
          | fail)
        clear hX hG
        simp (disch := omega) only [xl_n, xl_m, nI_dec, nI_sb, xl_0, xl_1, cW_i, Nat.add_zero, Nat.reduceAdd, Nat.reduceMul, t_bn0, t_bn1, Classical.not_not, t_lt, nI_add, nI_1, pk_mul, nI_clamp, c_si, nI_eq, nI_leI, nM_ne, nM_ne, xm_set] at *
        exact fin
      · have go := go (t_klt hmJ c (by omega))
        clear fin
        repeat' (first
          | ((with_reducible refine @And.intro (vp_in _ _) _ ?_ ?_); (· (first | with_reducible assumption | ((with_reducible refine t_vin ?_); decide) | ((with_reducible refine vp_in_nI ?_ ?_) <;> first | omega | decide) | (simp (disch := omega) only [xl_n, xl_m, nI_dec, nI_sb, nI_add, pk_mul]; (with_reducible refine vp_in_nI ?_ ?_) <;> first | omega | decide))); (conv => whnf))
          | (refine And.intro (by first | with_reducible assumption | exact (show cL _ _ = _ from rfl) | decide) ?_; (conv => whnf))
          | ((with_reducible refine @And.intro (_ = _) _ ?_ ?_); (· rfl); (conv => whnf))
          | ((with_reducible refine @And.intro (@LE.le Nat _ _ _) _ ?_ ?_); (· (first | exact Nat.zero_le _ | exact Nat.le_of_ble_eq_true rfl | omega)); (conv => whnf))
          | ((with_reducible refine @And.intro (@LT.lt Nat _ _ _) _ ?_ ?_); (· omega); (conv => whnf))
          | ((with_reducible refine @And.intro (∃ _, _ = _) _ ?_ ?_); (· exact ⟨_, rfl⟩); (conv => whnf))
          | ((with_reducible refine @And.intro (_ ∨ _) _ ?_ ?_); (· (first | exact Or.inl rfl | exact Or.inr rfl | exact t_b01 _ | assumption)); (conv => whnf))
          | ((with_reducible refine @And.intro (¬ (_ = _)) _ ?_ ?_); (· first | assumption | (with_reducible assumption)); (conv => whnf))
          | (refine hX _ _ _ _ _ _ ?_; (conv => whnf); fail_if_success show False)
          | (rw [c_si]; (conv => whnf))
          | (refine ⟨_, rfl, ?_⟩; (conv => whnf))
          | (refine ⟨_, _, rfl, ?_⟩; (conv => whnf))
          | (refine ⟨_, _, _, rfl, ?_⟩; (conv => whnf))
          | (refine ⟨_, _, _, _, rfl, ?_⟩; (conv => whnf))
          | (refine And.intro (fun c => ?_) (fun c => ?_) <;> (first | (exact absurd c (by decide +kernel)) | (conv => whnf)))
          | fail)
        exact go
  have fin := l3 0 (Nat.zero_le _) I none (Or.inl rfl) c_sc.rf ht rfl
  clear l3 l4
  refine ⟨rfl, ?_⟩
  repeat' (first
    | ((with_reducible refine @And.intro (vp_in _ _) _ ?_ ?_); (· (first | with_reducible assumption | ((with_reducible refine t_vin ?_); decide) | ((with_reducible refine vp_in_nI ?_ ?_) <;> first | omega | decide) | (simp (disch := omega) only [xl_n, xl_m, nI_dec, nI_sb, nI_add, pk_mul]; (with_reducible refine vp_in_nI ?_ ?_) <;> first | omega | decide))); (conv => whnf))
    | (refine And.intro (by first | with_reducible assumption | exact (show cL _ _ = _ from rfl) | decide) ?_; (conv => whnf))
    | ((with_reducible refine @And.intro (_ = _) _ ?_ ?_); (· rfl); (conv => whnf))
    | ((with_reducible refine @And.intro (@LE.le Nat _ _ _) _ ?_ ?_); (· (first | exact Nat.zero_le _ | exact Nat.le_of_ble_eq_true rfl | omega)); (conv => whnf))
    | ((with_reducible refine @And.intro (@LT.lt Nat _ _ _) _ ?_ ?_); (· omega); (conv => whnf))
    | ((with_reducible refine @And.intro (∃ _, _ = _) _ ?_ ?_); (· exact ⟨_, rfl⟩); (conv => whnf))
    | ((with_reducible refine @And.intro (_ ∨ _) _ ?_ ?_); (· (first | exact Or.inl rfl | exact Or.inr rfl | exact t_b01 _ | assumption)); (conv => whnf))
    | ((with_reducible refine @And.intro (¬ (_ = _)) _ ?_ ?_); (· first | assumption | (with_reducible assumption)); (conv => whnf))
    | (refine hX _ _ _ _ _ _ ?_; (conv => whnf); fail_if_success show False)
    | (rw [c_si]; (conv => whnf))
    | (refine ⟨_, rfl, ?_⟩; (conv => whnf))
    | (refine ⟨_, _, rfl, ?_⟩; (conv => whnf))
    | (refine ⟨_, _, _, rfl, ?_⟩; (conv => whnf))
    | (refine ⟨_, _, _, _, rfl, ?_⟩; (conv => whnf))
    | (refine And.intro (fun c => ?_) (fun c => ?_) <;> (first | (exact absurd c (by decide +kernel)) | (conv => whnf)))
    | fail)
  exact fin
theorem ct_X10_choices : xm_Ct cI yX10_choices (ws_ yX10_choices cX10_choices 3 none) 162 0 0 S_X10_choices := xm_enter (rt := 2) (init := false) (by decide +kernel) rfl (fun h => by cases h) (Or.inr (Or.inr (Or.inl ⟨rfl, rfl⟩))) (oX10_choices) body_X10_choices
theorem cv_X10_choices {own : String} {cc : ByteArray} {fr pc idx : Nat} (hdg : decode cc pc = .ok (.invokevirtual idx, 3)) (hl : xm_ml own idx yX10_choices) (hfr : 162 < fr) : xm_CallOK cI own cc fr pc (pc + 3) 1 0 0 (xm_this 7 S_X10_choices) := xm_callV 7 cI_good (ct_X10_choices) hdg hl q898 q899 q144 q900 rfl rfl (by decide +kernel) hfr (by decide)
