/-! ===== a troupe: who may, whom it chooses, deaths ===== -/
set_option maxRecDepth 100000
theorem t_and1 (y : Int32) : y &&& nI 1 = nI 0 ∨ y &&& nI 1 = nI 1 := by
  have h1 : ∀ i, i < 32 → i ≠ 0 → bt (nI 1) i = false := by decide +kernel
  have h0 : ∀ i, i < 32 → bt (nI 0) i = false := by decide +kernel
  have h10 : bt (nI 1) 0 = true := by decide +kernel
  cases hb : bt y 0 with
  | false =>
    left
    refine b_ext fun i hi => ?_
    rw [b_and, h0 i hi]
    by_cases q : i = 0
    · subst q
      rw [hb]
      rfl
    · rw [h1 i hi q, Bool.and_false]
  | true =>
    right
    refine b_ext fun i hi => ?_
    rw [b_and]
    by_cases q : i = 0
    · subst q
      rw [hb, h10]
      rfl
    · rw [h1 i hi q, Bool.and_false]
theorem t_has_f {x : Int32} {k : Nat} (h : (x >>> (nI k &&& 31)) &&& nI 1 = nI 0) : t_has x k = false := by
  unfold t_has
  rw [h]
  decide +kernel
theorem t_has_t {x : Int32} {k : Nat} (h : ¬ (x >>> (nI k &&& 31)) &&& nI 1 = nI 0) : t_has x k = true := by
  unfold t_has
  rcases t_and1 (x >>> (nI k &&& 31)) with q | q
  · exact absurd q h
  · rw [q]
    decide +kernel
theorem c_is_ald {I : tI} {r h : Nat} {L : List lC} (hi : c_is I r) (hh : h < c_h I) : g_al (cK I L) (cA I r) h = decide (I (10 * r) h = nI 1) :=
  Bool.eq_iff_iff.mpr (by rw [decide_eq_true_eq]; exact (Iff.of_eq (c_is_al hi hh)).symm)
abbrev bX10_may_0 : List xE := [(.aload_n 0, 1, 0, 0, 0), (.getfield 15, 4, 7, 0, 1), (.iload_n 2, 5, 0, 0, 0), (.iaload, 6, 0, 0, 0), (.iconst 1, 7, 0, 0, 0), (.if_icmp .ne 47, 10, 0, 54, 0), (.aload_n 0, 11, 0, 0, 0), (.iload_n 1, 12, 0, 0, 0), (.iload_n 2, 13, 0, 0, 0), (.invokevirtual 54, 16, 0, 0, 9), (.ifCond .ne 38, 19, 0, 54, 0), (.aload_n 0, 20, 0, 0, 0), (.getfield 3, 23, 7, 7, 1), (.getfield 38, 26, 0, 0, 1), (.getfield 107, 29, 1, 9, 1), (.iload_n 1, 30, 0, 0, 0), (.iaload, 31, 0, 0, 0), (.iload_n 2, 32, 0, 0, 0), (.ishr, 33, 0, 0, 0), (.iconst 1, 34, 0, 0, 0), (.iand, 35, 0, 0, 0), (.ifCond .ne 19, 38, 0, 54, 0), (.aload_n 0, 39, 0, 0, 0), (.iload_n 2, 40, 0, 0, 0), (.invokevirtual 91, 43, 0, 1, 9), (.invokestatic 70, 46, 0, 2, 9), (.iconst 3, 47, 0, 0, 0), (.if_icmp .ge 7, 50, 0, 54, 0), (.iconst 1, 51, 0, 0, 0), (.goto 4, 54, 0, 55, 0)]
abbrev bX10_may_54 : List xE := [(.iconst 0, 55, 0, 0, 0)]
abbrev bX10_may_55 : List xE := [(.ireturn, 56, 0, 0, 0)]
abbrev kX10_may : List (Nat × List xE) := [(0, bX10_may_0), (54, bX10_may_54), (55, bX10_may_55)]
abbrev lX10_may : List (Nat × Nat × Nat × xS) := [(3, 0, 0, xm_this 7 S_X10_isOf), (2, 0, 0, xm_this 7 S_X10_workedBy), (1, 0, 0, S_J16_bitCount)]
theorem oX10_may_0  : xm_okb cI RX10 cX10_may false 3 lX10_may bX10_may_0 0 := xo_0 dX10_may_0 rfl trivial (xo_1 dX10_may_1 rfl (xm_fg_of (Or.inl q662) (by decide) rfl (by decide) rfl rfl (Or.inl rfl) rfl) (xo_0 dX10_may_4 rfl trivial (xo_0 dX10_may_5 rfl trivial (xo_0 dX10_may_6 rfl trivial (xo_0 dX10_may_7 rfl rfl (xo_0 dX10_may_10 rfl trivial (xo_0 dX10_may_11 rfl trivial (xo_0 dX10_may_12 rfl trivial (xo_c rfl (cv_X10_isOf dX10_may_13 (Or.inl q703) (by decide)) (xo_0 dX10_may_16 rfl rfl (xo_0 dX10_may_19 rfl trivial (xo_1 dX10_may_20 rfl (xm_fg_of (Or.inl q676) (by decide) rfl (by decide) rfl rfl (Or.inl rfl) rfl) (xo_1 dX10_may_23 rfl (xm_fg_of (Or.inr ⟨_, q717⟩) (by decide) rfl (by decide) rfl rfl (Or.inl rfl) rfl) (xo_1 dX10_may_26 rfl (xm_fg_of (Or.inr ⟨_, q547⟩) (by decide) rfl (by decide) rfl rfl (Or.inl rfl) rfl) (xo_0 dX10_may_29 rfl trivial (xo_0 dX10_may_30 rfl trivial (xo_0 dX10_may_31 rfl trivial (xo_0 dX10_may_32 rfl trivial (xo_0 dX10_may_33 rfl trivial (xo_0 dX10_may_34 rfl trivial (xo_0 dX10_may_35 rfl rfl (xo_0 dX10_may_38 rfl trivial (xo_0 dX10_may_39 rfl trivial (xo_c rfl (cv_X10_workedBy dX10_may_40 (Or.inl q888) (by decide)) (xo_c rfl (cv_J16_bitCount dX10_may_43 (Or.inl q896) (by decide)) (xo_0 dX10_may_46 rfl trivial (xo_0 dX10_may_47 rfl rfl (xo_0 dX10_may_50 rfl trivial (xo_0 dX10_may_51 rfl rfl (xo_n))))))))))))))))))))))))))))))
theorem oX10_may_54  : xm_okb cI RX10 cX10_may false 3 lX10_may bX10_may_54 54 := xo_0 dX10_may_54 rfl trivial (xo_n)
theorem oX10_may_55  : xm_okb cI RX10 cX10_may false 3 lX10_may bX10_may_55 55 := xo_0 dX10_may_55 rfl trivial (xo_n)
theorem oX10_may  : ∀ q ∈ kX10_may, xm_okb cI RX10 cX10_may false 3 lX10_may q.2 q.1 := by
  intro q hq
  simp only [List.mem_cons, List.not_mem_nil, or_false] at hq
  rcases hq with rfl | rfl | rfl
  · exact oX10_may_0  
  · exact oX10_may_54  
  · exact oX10_may_55  
def S_X10_may : xS := cU fun as P X I Q QX => ∃ r p h L, as = [.ref r, .int (nI p), .int (nI h)] ∧ c_tr P r ∧ c_ok I ∧ p < c_p I ∧ h < c_h I ∧ c_is I r ∧ Q (some (.int (t_b (g_may (cK I L) (cA I r) p h)))) I
theorem body_X10_may : xm_Body 3 1 0 0 [] lX10_may kX10_may S_X10_may := by
  intro X avs w Q QX hX0 hS
  have hG := xm_go [] hX0
  have hX := xm_go [] hX0
  clear hX0
  obtain ⟨P, Z, I, rfl, r, p, h, L, rfl, hr, hok, hp, hh, his, hQ⟩ := hS
  obtain ⟨hn, h9, hm, h8⟩ := id hok
  have hp8 : p < 8 := by omega
  have hal' := c_is_ald (L := L) his hh
  have hm9 : t_m9 (t_or (c_p I) (fun p => t_has (gw (cA I r) p) h)) := t_or_m9 (by omega)
  have e : g_may (cK I L) (cA I r) p h = (g_al (cK I L) (cA I r) h && !t_has (I (10 * r + 1) p) h && !t_has (I 39 p) h && !decide (nI 3 ≤ t_ones (t_or (c_p I) (fun p => t_has (gw (cA I r) p) h)))) := by
    unfold g_may
    rw [cA_gw hp8, cK_quar hp]
    rfl
  rw [e] at hQ
  clear e
  refine ⟨rfl, ?_⟩
  repeat' (first
    | ((with_reducible refine @And.intro (vp_in _ _) _ ?_ ?_); (· (first | with_reducible assumption | ((with_reducible refine t_vin ?_); decide) | ((with_reducible refine vp_in_nI ?_ ?_) <;> first | omega | decide) | (simp (disch := omega) only [xl_n, xl_m, nI_dec, nI_sb, nI_add, pk_mul]; (with_reducible refine vp_in_nI ?_ ?_) <;> first | omega | decide))); (conv => whnf))
    | (refine And.intro (by first | with_reducible assumption | exact (show cL _ _ = _ from rfl) | decide) ?_; (conv => whnf))
    | ((with_reducible refine @And.intro (_ = _) _ ?_ ?_); (· rfl); (conv => whnf))
    | ((with_reducible refine @And.intro (@LE.le Nat _ _ _) _ ?_ ?_); (· (first | exact Nat.zero_le _ | exact Nat.le_of_ble_eq_true rfl | omega)); (conv => whnf))
    | ((with_reducible refine @And.intro (@LT.lt Nat _ _ _) _ ?_ ?_); (· omega); (conv => whnf))
    | ((with_reducible refine @And.intro (∃ _, _ = _) _ ?_ ?_); (· exact ⟨_, rfl⟩); (conv => whnf))
    | ((with_reducible refine @And.intro (_ ∨ _) _ ?_ ?_); (· (first | exact Or.inl rfl | exact Or.inr rfl | exact t_b01 _ | assumption)); (conv => whnf))
    | ((with_reducible refine @And.intro (¬ (_ = _)) _ ?_ ?_); (· first | assumption | (with_reducible assumption)); (conv => whnf))
    | (refine hX _ _ _ _ _ _ ?_; (conv => whnf); fail_if_success show False)
    | (rw [c_si]; (conv => whnf))
    | (refine ⟨_, rfl, ?_⟩; (conv => whnf))
    | (refine ⟨_, _, rfl, ?_⟩; (conv => whnf))
    | (refine ⟨_, _, _, rfl, ?_⟩; (conv => whnf))
    | (refine ⟨_, _, _, _, rfl, ?_⟩; (conv => whnf))
    | (rw [c_tl hr]; (conv => whnf))
    | (rw [c_t7 hr]; (conv => whnf))
    | (rw [c_tf hr (by decide)]; (conv => whnf))
    | (rw [c_t0 hr]; (conv => whnf))
    | (rw [c_t1 hr]; (conv => whnf))
    | (rw [c_t2 hr]; (conv => whnf))
    | (rw [c_t3 hr]; (conv => whnf))
    | (rw [c_t4 hr]; (conv => whnf))
    | (rw [c_t5 hr]; (conv => whnf))
    | (refine And.intro ⟨_, c_tl hr⟩ ?_; (conv => whnf))
    | (refine And.intro (fun c => ?_) (fun c => ?_) <;> (first | (exact absurd c (by decide +kernel)) | (conv => whnf)))
    | fail)
  all_goals (
    refine t_q hQ ?_
    clear hX hG hQ)
  all_goals simp (disch := omega) only [xl_n, xl_m, nI_dec, nI_sb, xl_0, xl_1, cW_i, Nat.add_zero, Nat.reduceAdd, Nat.reduceMul, t_bn0, t_bn1, Classical.not_not, t_lt, nI_add, nI_1, pk_mul, nI_clamp, c_si, nI_eq, nI_leI, nM_ne, nM_ne] at *
  all_goals (
    first
    | have hq := t_has_f (x := I 39 p) (k := h) (by assumption)
    | have hq := t_has_t (x := I 39 p) (k := h) (by assumption)
    | skip)
  all_goals rw [hal']
  all_goals simp [*, t_bf, t_bt]
theorem ct_X10_may : xm_Ct cI yX10_may (ws_ yX10_may cX10_may 3 (some .boolean)) 3 0 0 S_X10_may := xm_enter (rt := 1) (init := false) (by decide +kernel) rfl (fun h => by cases h) (Or.inr (Or.inl ⟨rfl, Or.inl rfl⟩)) (oX10_may) body_X10_may
theorem cv_X10_may {own : String} {cc : ByteArray} {fr pc idx : Nat} (hdg : decode cc pc = .ok (.invokevirtual idx, 3)) (hl : xm_ml own idx yX10_may) (hfr : 3 < fr) : xm_CallOK cI own cc fr pc (pc + 3) 3 0 0 (xm_this 7 S_X10_may) := xm_callV 7 cI_good (ct_X10_may) hdg hl q911 q912 q144 q913 rfl rfl (by decide +kernel) hfr (by decide)
abbrev bX10_chooses_0 : List xE := [(.iconst (-1), 1, 0, 0, 0), (.istore_n 2, 2, 0, 0, 0), (.iconst 0, 3, 0, 0, 0), (.istore_n 3, 4, 0, 0, 0)]
abbrev bX10_chooses_4 : List xE := [(.iload_n 3, 5, 0, 0, 0), (.aload_n 0, 6, 0, 0, 0), (.getfield 3, 9, 7, 7, 1), (.getfield 38, 12, 0, 0, 1), (.getfield 42, 15, 1, 11, 0), (.if_icmp .ge 40, 18, 0, 55, 0), (.aload_n 0, 19, 0, 0, 0), (.iload_n 1, 20, 0, 0, 0), (.iload_n 3, 21, 0, 0, 0), (.invokevirtual 110, 24, 0, 0, 9), (.ifCond .eq 25, 27, 0, 49, 0), (.iload_n 2, 28, 0, 0, 0), (.iconst (-1), 29, 0, 0, 0), (.if_icmp .eq 18, 32, 0, 47, 0), (.aload_n 0, 33, 0, 0, 0), (.iload_n 1, 34, 0, 0, 0), (.iload_n 3, 35, 0, 0, 0), (.invokevirtual 113, 38, 0, 1, 9), (.aload_n 0, 39, 0, 0, 0), (.iload_n 1, 40, 0, 0, 0), (.iload_n 2, 41, 0, 0, 0), (.invokevirtual 113, 44, 0, 1, 9), (.if_icmp .le 5, 47, 0, 49, 0)]
abbrev bX10_chooses_47 : List xE := [(.iload_n 3, 48, 0, 0, 0), (.istore_n 2, 49, 0, 0, 0)]
abbrev bX10_chooses_49 : List xE := [(.iinc 3 1, 52, 0, 0, 0), (.goto (-48), 55, 0, 4, 0)]
abbrev bX10_chooses_55 : List xE := [(.iload_n 2, 56, 0, 0, 0), (.ireturn, 57, 0, 0, 0)]
abbrev kX10_chooses : List (Nat × List xE) := [(0, bX10_chooses_0), (4, bX10_chooses_4), (47, bX10_chooses_47), (49, bX10_chooses_49), (55, bX10_chooses_55)]
abbrev lX10_chooses : List (Nat × Nat × Nat × xS) := [(3, 0, 0, xm_this 7 S_X10_may), (3, 0, 0, xm_this 7 S_X10_score)]
theorem oX10_chooses_0  : xm_okb cI RX10 cX10_chooses false 161 lX10_chooses bX10_chooses_0 0 := xo_0 dX10_chooses_0 rfl trivial (xo_0 dX10_chooses_1 rfl trivial (xo_0 dX10_chooses_2 rfl trivial (xo_0 dX10_chooses_3 rfl trivial (xo_n))))
theorem oX10_chooses_4  : xm_okb cI RX10 cX10_chooses false 161 lX10_chooses bX10_chooses_4 4 := xo_0 dX10_chooses_4 rfl trivial (xo_0 dX10_chooses_5 rfl trivial (xo_1 dX10_chooses_6 rfl (xm_fg_of (Or.inl q676) (by decide) rfl (by decide) rfl rfl (Or.inl rfl) rfl) (xo_1 dX10_chooses_9 rfl (xm_fg_of (Or.inr ⟨_, q717⟩) (by decide) rfl (by decide) rfl rfl (Or.inl rfl) rfl) (xo_0 dX10_chooses_12 rfl (xm_fg_of (Or.inr ⟨_, q553⟩) (by decide) rfl (by decide) rfl rfl (Or.inl rfl) rfl) (xo_0 dX10_chooses_15 rfl rfl (xo_0 dX10_chooses_18 rfl trivial (xo_0 dX10_chooses_19 rfl trivial (xo_0 dX10_chooses_20 rfl trivial (xo_c rfl (cv_X10_may dX10_chooses_21 (Or.inl q910) (by decide)) (xo_0 dX10_chooses_24 rfl rfl (xo_0 dX10_chooses_27 rfl trivial (xo_0 dX10_chooses_28 rfl trivial (xo_0 dX10_chooses_29 rfl rfl (xo_0 dX10_chooses_32 rfl trivial (xo_0 dX10_chooses_33 rfl trivial (xo_0 dX10_chooses_34 rfl trivial (xo_c rfl (cv_X10_score dX10_chooses_35 (Or.inl q914) (by decide)) (xo_0 dX10_chooses_38 rfl trivial (xo_0 dX10_chooses_39 rfl trivial (xo_0 dX10_chooses_40 rfl trivial (xo_c rfl (cv_X10_score dX10_chooses_41 (Or.inl q914) (by decide)) (xo_0 dX10_chooses_44 rfl rfl (xo_n)))))))))))))))))))))))
theorem oX10_chooses_47  : xm_okb cI RX10 cX10_chooses false 161 lX10_chooses bX10_chooses_47 47 := xo_0 dX10_chooses_47 rfl trivial (xo_0 dX10_chooses_48 rfl trivial (xo_n))
theorem oX10_chooses_49  : xm_okb cI RX10 cX10_chooses false 161 lX10_chooses bX10_chooses_49 49 := xo_0 dX10_chooses_49 rfl trivial (xo_0 dX10_chooses_52 rfl rfl (xo_n))
theorem oX10_chooses_55  : xm_okb cI RX10 cX10_chooses false 161 lX10_chooses bX10_chooses_55 55 := xo_0 dX10_chooses_55 rfl trivial (xo_0 dX10_chooses_56 rfl trivial (xo_n))
theorem oX10_chooses  : ∀ q ∈ kX10_chooses, xm_okb cI RX10 cX10_chooses false 161 lX10_chooses q.2 q.1 := by
  intro q hq
  simp only [List.mem_cons, List.not_mem_nil, or_false] at hq
  rcases hq with rfl | rfl | rfl | rfl | rfl
  · exact oX10_chooses_0  
  · exact oX10_chooses_4  
  · exact oX10_chooses_47  
  · exact oX10_chooses_49  
  · exact oX10_chooses_55  
def S_X10_chooses : xS := cU fun as P X I Q QX => ∃ r p L, as = [.ref r, .int (nI p)] ∧ c_tr P r ∧ c_ok I ∧ p < c_p I ∧ c_is I r ∧ c_lw P X I L ∧ g_w (cA I r) ∧ ∀ J, c_fa I J → Q (some (.int (t_o (g_chosen (cK I L) (cA I r) p)))) J
theorem c_fa.is {P : cP} {I J : tI} {r : Nat} (h : c_fa I J) (hr : c_tr P r) (hi : c_is I r) : c_is J r := by
  intro k hk
  rw [h.h.1] at hk
  rw [h _ (by have := hr.ne; omega), h.A hr, h 31 (by decide), h r (by have := hr.ne; omega)]
  exact hi k hk
theorem body_X10_chooses : xm_Body 4 0 0 0 [] lX10_chooses kX10_chooses S_X10_chooses := by
  intro X avs w Q QX hX0 hS
  have hG := xm_go [] hX0
  have hX := xm_go [4, 47, 49] hX0
  clear hX0
  obtain ⟨P, Z, I, rfl, r, p, L, rfl, hr, hok, hp, his, hlw, hw, hQ⟩ := hS
  obtain ⟨hn, h9, hm, h8⟩ := id hok
  have loop : ∀ k, k ≤ c_h I → ∀ J, c_fa I J → X 4 [some (.ref r), some (.int (nI p)), some (.int (t_o (g_best (cK I L) (cA I r) p k))), some (.int (nI k))] [] (cW P Z J) 0 0 := by
    refine t_for fun k h1 ih J hJ => ?_
    have hokJ := hJ.ok hok
    have hnJ : J 1 11 = nI (c_h I) := by rw [hJ 1 (by decide)]; exact hn
    refine hG _ _ _ _ _ _ ?_
    (conv => whnf)
    repeat' (first
      | ((with_reducible refine @And.intro (vp_in _ _) _ ?_ ?_); (· (first | with_reducible assumption | ((with_reducible refine t_vin ?_); decide) | ((with_reducible refine vp_in_nI ?_ ?_) <;> first | omega | decide) | (simp (disch := omega) only [xl_n, xl_m, nI_dec, nI_sb, nI_add, pk_mul]; (with_reducible refine vp_in_nI ?_ ?_) <;> first | omega | decide))); (conv => whnf))
      | (refine And.intro (by first | with_reducible assumption | exact (show cL _ _ = _ from rfl) | decide) ?_; (conv => whnf))
      | ((with_reducible refine @And.intro (_ = _) _ ?_ ?_); (· rfl); (conv => whnf))
      | ((with_reducible refine @And.intro (@LE.le Nat _ _ _) _ ?_ ?_); (· (first | exact Nat.zero_le _ | exact Nat.le_of_ble_eq_true rfl | omega)); (conv => whnf))
      | ((with_reducible refine @And.intro (@LT.lt Nat _ _ _) _ ?_ ?_); (· omega); (conv => whnf))
      | ((with_reducible refine @And.intro (∃ _, _ = _) _ ?_ ?_); (· exact ⟨_, rfl⟩); (conv => whnf))
      | ((with_reducible refine @And.intro (_ ∨ _) _ ?_ ?_); (· (first | exact Or.inl rfl | exact Or.inr rfl | exact t_b01 _ | assumption)); (conv => whnf))
      | ((with_reducible refine @And.intro (¬ (_ = _)) _ ?_ ?_); (· first | assumption | (with_reducible assumption)); (conv => whnf))
      | (refine hX _ _ _ _ _ _ ?_; (conv => whnf); fail_if_success show False)
      | (rw [c_si]; (conv => whnf))
      | (refine ⟨_, rfl, ?_⟩; (conv => whnf))
      | (refine ⟨_, _, rfl, ?_⟩; (conv => whnf))
      | (refine ⟨_, _, _, rfl, ?_⟩; (conv => whnf))
      | (refine ⟨_, _, _, _, rfl, ?_⟩; (conv => whnf))
      | (rw [c_tl hr]; (conv => whnf))
      | (rw [c_t7 hr]; (conv => whnf))
      | (rw [c_tf hr (by decide)]; (conv => whnf))
      | (rw [c_t0 hr]; (conv => whnf))
      | (rw [c_t1 hr]; (conv => whnf))
      | (rw [c_t2 hr]; (conv => whnf))
      | (rw [c_t3 hr]; (conv => whnf))
      | (rw [c_t4 hr]; (conv => whnf))
      | (rw [c_t5 hr]; (conv => whnf))
      | (refine And.intro ⟨_, c_tl hr⟩ ?_; (conv => whnf))
      | fail)
    refine And.intro (fun c => ?_) (fun c => ?_) <;> (conv => whnf)
    · repeat' (first
        | ((with_reducible refine @And.intro (vp_in _ _) _ ?_ ?_); (· (first | with_reducible assumption | ((with_reducible refine t_vin ?_); decide) | ((with_reducible refine vp_in_nI ?_ ?_) <;> first | omega | decide) | (simp (disch := omega) only [xl_n, xl_m, nI_dec, nI_sb, nI_add, pk_mul]; (with_reducible refine vp_in_nI ?_ ?_) <;> first | omega | decide))); (conv => whnf))
        | (refine And.intro (by first | with_reducible assumption | exact (show cL _ _ = _ from rfl) | decide) ?_; (conv => whnf))
        | ((with_reducible refine @And.intro (_ = _) _ ?_ ?_); (· rfl); (conv => whnf))
        | ((with_reducible refine @And.intro (@LE.le Nat _ _ _) _ ?_ ?_); (· (first | exact Nat.zero_le _ | exact Nat.le_of_ble_eq_true rfl | omega)); (conv => whnf))
        | ((with_reducible refine @And.intro (@LT.lt Nat _ _ _) _ ?_ ?_); (· omega); (conv => whnf))
        | ((with_reducible refine @And.intro (∃ _, _ = _) _ ?_ ?_); (· exact ⟨_, rfl⟩); (conv => whnf))
        | ((with_reducible refine @And.intro (_ ∨ _) _ ?_ ?_); (· (first | exact Or.inl rfl | exact Or.inr rfl | exact t_b01 _ | assumption)); (conv => whnf))
        | ((with_reducible refine @And.intro (¬ (_ = _)) _ ?_ ?_); (· first | assumption | (with_reducible assumption)); (conv => whnf))
        | (refine hX _ _ _ _ _ _ ?_; (conv => whnf); fail_if_success show False)
        | (rw [c_si]; (conv => whnf))
        | (refine ⟨_, rfl, ?_⟩; (conv => whnf))
        | (refine ⟨_, _, rfl, ?_⟩; (conv => whnf))
        | (refine ⟨_, _, _, rfl, ?_⟩; (conv => whnf))
        | (refine ⟨_, _, _, _, rfl, ?_⟩; (conv => whnf))
        | fail)
      have : k = c_h I := Nat.le_antisymm h1 (t_kge hnJ c (by omega) (by omega))
      subst this
      exact hQ J hJ
    · have hk : k < c_h I := t_klt hnJ c (by omega)
      have hisJ := hJ.is hr his
      have hwJ : g_w (cA J r) := by rw [hJ.A hr]; exact hw
      have hlwJ := hJ.lw hlw
      have hpJ : p < c_p J := by rw [hJ.h.2]; exact hp
      have hkJ : k < c_h J := by rw [hJ.h.1]; exact hk
      have x49 : ∀ M, c_fa I M → X 49 [some (.ref r), some (.int (nI p)), some (.int (t_o (g_best (cK I L) (cA I r) p (k + 1)))), some (.int (nI k))] [] (cW P Z M) 0 0 := by
        intro M hM
        have := ih (k + 1) (by omega) (by omega) M hM
        clear ih
        refine hG _ _ _ _ _ _ ?_
        (conv => whnf)
        repeat' (first
          | ((with_reducible refine @And.intro (vp_in _ _) _ ?_ ?_); (· (first | with_reducible assumption | ((with_reducible refine t_vin ?_); decide) | ((with_reducible refine vp_in_nI ?_ ?_) <;> first | omega | decide) | (simp (disch := omega) only [xl_n, xl_m, nI_dec, nI_sb, nI_add, pk_mul]; (with_reducible refine vp_in_nI ?_ ?_) <;> first | omega | decide))); (conv => whnf))
          | (refine And.intro (by first | with_reducible assumption | exact (show cL _ _ = _ from rfl) | decide) ?_; (conv => whnf))
          | ((with_reducible refine @And.intro (_ = _) _ ?_ ?_); (· rfl); (conv => whnf))
          | ((with_reducible refine @And.intro (@LE.le Nat _ _ _) _ ?_ ?_); (· (first | exact Nat.zero_le _ | exact Nat.le_of_ble_eq_true rfl | omega)); (conv => whnf))
          | ((with_reducible refine @And.intro (@LT.lt Nat _ _ _) _ ?_ ?_); (· omega); (conv => whnf))
          | ((with_reducible refine @And.intro (∃ _, _ = _) _ ?_ ?_); (· exact ⟨_, rfl⟩); (conv => whnf))
          | ((with_reducible refine @And.intro (_ ∨ _) _ ?_ ?_); (· (first | exact Or.inl rfl | exact Or.inr rfl | exact t_b01 _ | assumption)); (conv => whnf))
          | ((with_reducible refine @And.intro (¬ (_ = _)) _ ?_ ?_); (· first | assumption | (with_reducible assumption)); (conv => whnf))
          | (refine hX _ _ _ _ _ _ ?_; (conv => whnf); fail_if_success show False)
          | (rw [c_si]; (conv => whnf))
          | (refine ⟨_, rfl, ?_⟩; (conv => whnf))
          | (refine ⟨_, _, rfl, ?_⟩; (conv => whnf))
          | (refine ⟨_, _, _, rfl, ?_⟩; (conv => whnf))
          | (refine ⟨_, _, _, _, rfl, ?_⟩; (conv => whnf))
          | (refine And.intro (fun c => ?_) (fun c => ?_) <;> (first | (exact absurd c (by decide +kernel)) | (conv => whnf)))
          | fail)
        clear hX hG
        simp (disch := omega) only [xl_n, xl_m, nI_dec, nI_sb, xl_0, xl_1, cW_i, Nat.add_zero, Nat.reduceAdd, Nat.reduceMul, t_bn0, t_bn1, Classical.not_not, t_lt, nI_add, nI_1, pk_mul, nI_clamp, c_si, nI_eq, nI_leI, nM_ne, nM_ne, xm_set] at *
        exact this
      clear ih
      have x47 : ∀ M o, c_fa I M → g_best (cK I L) (cA I r) p (k + 1) = some k → X 47 [some (.ref r), some (.int (nI p)), o, some (.int (nI k))] [] (cW P Z M) 0 0 := by
        intro M o hM e
        have := x49 M hM
        rw [e] at this
        clear x49
        refine hG _ _ _ _ _ _ ?_
        (conv => whnf)
        repeat' (first
          | ((with_reducible refine @And.intro (vp_in _ _) _ ?_ ?_); (· (first | with_reducible assumption | ((with_reducible refine t_vin ?_); decide) | ((with_reducible refine vp_in_nI ?_ ?_) <;> first | omega | decide) | (simp (disch := omega) only [xl_n, xl_m, nI_dec, nI_sb, nI_add, pk_mul]; (with_reducible refine vp_in_nI ?_ ?_) <;> first | omega | decide))); (conv => whnf))
          | (refine And.intro (by first | with_reducible assumption | exact (show cL _ _ = _ from rfl) | decide) ?_; (conv => whnf))
          | ((with_reducible refine @And.intro (_ = _) _ ?_ ?_); (· rfl); (conv => whnf))
          | ((with_reducible refine @And.intro (@LE.le Nat _ _ _) _ ?_ ?_); (· (first | exact Nat.zero_le _ | exact Nat.le_of_ble_eq_true rfl | omega)); (conv => whnf))
          | ((with_reducible refine @And.intro (@LT.lt Nat _ _ _) _ ?_ ?_); (· omega); (conv => whnf))
          | ((with_reducible refine @And.intro (∃ _, _ = _) _ ?_ ?_); (· exact ⟨_, rfl⟩); (conv => whnf))
          | ((with_reducible refine @And.intro (_ ∨ _) _ ?_ ?_); (· (first | exact Or.inl rfl | exact Or.inr rfl | exact t_b01 _ | assumption)); (conv => whnf))
          | ((with_reducible refine @And.intro (¬ (_ = _)) _ ?_ ?_); (· first | assumption | (with_reducible assumption)); (conv => whnf))
          | (refine hX _ _ _ _ _ _ ?_; (conv => whnf); fail_if_success show False)
          | (rw [c_si]; (conv => whnf))
          | (refine ⟨_, rfl, ?_⟩; (conv => whnf))
          | (refine ⟨_, _, rfl, ?_⟩; (conv => whnf))
          | (refine ⟨_, _, _, rfl, ?_⟩; (conv => whnf))
          | (refine ⟨_, _, _, _, rfl, ?_⟩; (conv => whnf))
          | (refine And.intro (fun c => ?_) (fun c => ?_) <;> (first | (exact absurd c (by decide +kernel)) | (conv => whnf)))
          | fail)
        exact this
      rw [g_best_s] at x47 x49
      have em : g_may (cK J L) (cA J r) p k = g_may (cK I L) (cA I r) p k := by rw [hJ.K, hJ.A hr]
      cases hmay : g_may (cK I L) (cA I r) p k with
      | false =>
        rw [hmay] at x49 em
        rw [if_neg (by simp)] at x49
        have fin := x49 J hJ
        have em := em
        clear x47 x49
        repeat' (first
          | ((with_reducible refine @And.intro (vp_in _ _) _ ?_ ?_); (· (first | with_reducible assumption | ((with_reducible refine t_vin ?_); decide) | ((with_reducible refine vp_in_nI ?_ ?_) <;> first | omega | decide) | (simp (disch := omega) only [xl_n, xl_m, nI_dec, nI_sb, nI_add, pk_mul]; (with_reducible refine vp_in_nI ?_ ?_) <;> first | omega | decide))); (conv => whnf))
          | (refine And.intro (by first | with_reducible assumption | exact (show cL _ _ = _ from rfl) | decide) ?_; (conv => whnf))
          | ((with_reducible refine @And.intro (_ = _) _ ?_ ?_); (· rfl); (conv => whnf))
          | ((with_reducible refine @And.intro (@LE.le Nat _ _ _) _ ?_ ?_); (· (first | exact Nat.zero_le _ | exact Nat.le_of_ble_eq_true rfl | omega)); (conv => whnf))
          | ((with_reducible refine @And.intro (@LT.lt Nat _ _ _) _ ?_ ?_); (· omega); (conv => whnf))
          | ((with_reducible refine @And.intro (∃ _, _ = _) _ ?_ ?_); (· exact ⟨_, rfl⟩); (conv => whnf))
          | ((with_reducible refine @And.intro (_ ∨ _) _ ?_ ?_); (· (first | exact Or.inl rfl | exact Or.inr rfl | exact t_b01 _ | assumption)); (conv => whnf))
          | ((with_reducible refine @And.intro (¬ (_ = _)) _ ?_ ?_); (· first | assumption | (with_reducible assumption)); (conv => whnf))
          | (refine hX _ _ _ _ _ _ ?_; (conv => whnf); fail_if_success show False)
          | (rw [c_si]; (conv => whnf))
          | (refine ⟨_, rfl, ?_⟩; (conv => whnf))
          | (refine ⟨_, _, rfl, ?_⟩; (conv => whnf))
          | (refine ⟨_, _, _, rfl, ?_⟩; (conv => whnf))
          | (refine ⟨_, _, _, _, rfl, ?_⟩; (conv => whnf))
          | (refine ⟨_,_,_,L,rfl,hr,hokJ,hpJ,hkJ,hisJ,?_⟩; (conv => whnf))
          | (rw [em]; (conv => whnf))
          | (rw [c_tl hr]; (conv => whnf))
          | (rw [c_t7 hr]; (conv => whnf))
          | (rw [c_tf hr (by decide)]; (conv => whnf))
          | (rw [c_t0 hr]; (conv => whnf))
          | (rw [c_t1 hr]; (conv => whnf))
          | (rw [c_t2 hr]; (conv => whnf))
          | (rw [c_t3 hr]; (conv => whnf))
          | (rw [c_t4 hr]; (conv => whnf))
          | (rw [c_t5 hr]; (conv => whnf))
          | (refine And.intro ⟨_, c_tl hr⟩ ?_; (conv => whnf))
          | (refine And.intro (fun c => ?_) (fun c => ?_) <;> (first | (exact absurd c (by decide +kernel)) | (conv => whnf)))
          | fail)
        exact fin
      | true =>
        rw [hmay] at x47 x49 em
        cases hb : g_best (cK I L) (cA I r) p k with
        | none =>
          have fin := x47 J (some (.int nM)) hJ (by rw [hb]; rfl)
          clear x47 x49
          repeat' (first
            | ((with_reducible refine @And.intro (vp_in _ _) _ ?_ ?_); (· (first | with_reducible assumption | ((with_reducible refine t_vin ?_); decide) | ((with_reducible refine vp_in_nI ?_ ?_) <;> first | omega | decide) | (simp (disch := omega) only [xl_n, xl_m, nI_dec, nI_sb, nI_add, pk_mul]; (with_reducible refine vp_in_nI ?_ ?_) <;> first | omega | decide))); (conv => whnf))
            | (refine And.intro (by first | with_reducible assumption | exact (show cL _ _ = _ from rfl) | decide) ?_; (conv => whnf))
            | ((with_reducible refine @And.intro (_ = _) _ ?_ ?_); (· rfl); (conv => whnf))
            | ((with_reducible refine @And.intro (@LE.le Nat _ _ _) _ ?_ ?_); (· (first | exact Nat.zero_le _ | exact Nat.le_of_ble_eq_true rfl | omega)); (conv => whnf))
            | ((with_reducible refine @And.intro (@LT.lt Nat _ _ _) _ ?_ ?_); (· omega); (conv => whnf))
            | ((with_reducible refine @And.intro (∃ _, _ = _) _ ?_ ?_); (· exact ⟨_, rfl⟩); (conv => whnf))
            | ((with_reducible refine @And.intro (_ ∨ _) _ ?_ ?_); (· (first | exact Or.inl rfl | exact Or.inr rfl | exact t_b01 _ | assumption)); (conv => whnf))
            | ((with_reducible refine @And.intro (¬ (_ = _)) _ ?_ ?_); (· first | assumption | (with_reducible assumption)); (conv => whnf))
            | (refine hX _ _ _ _ _ _ ?_; (conv => whnf); fail_if_success show False)
            | (rw [c_si]; (conv => whnf))
            | (refine ⟨_, rfl, ?_⟩; (conv => whnf))
            | (refine ⟨_, _, rfl, ?_⟩; (conv => whnf))
            | (refine ⟨_, _, _, rfl, ?_⟩; (conv => whnf))
            | (refine ⟨_, _, _, _, rfl, ?_⟩; (conv => whnf))
            | (refine ⟨_,_,_,L,rfl,hr,hokJ,hpJ,hkJ,hisJ,?_⟩; (conv => whnf))
            | (rw [em]; (conv => whnf))
            | (rw [c_tl hr]; (conv => whnf))
            | (rw [c_t7 hr]; (conv => whnf))
            | (rw [c_tf hr (by decide)]; (conv => whnf))
            | (rw [c_t0 hr]; (conv => whnf))
            | (rw [c_t1 hr]; (conv => whnf))
            | (rw [c_t2 hr]; (conv => whnf))
            | (rw [c_t3 hr]; (conv => whnf))
            | (rw [c_t4 hr]; (conv => whnf))
            | (rw [c_t5 hr]; (conv => whnf))
            | (refine And.intro ⟨_, c_tl hr⟩ ?_; (conv => whnf))
            | (refine And.intro (fun c => ?_) (fun c => ?_) <;> (first | (exact absurd c (by decide +kernel)) | (conv => whnf)))
            | fail)
          exact fin
        | some z =>
          have hz := g_best_lt hb
          have hzJ : z < c_h J := by omega
          rw [hb] at x47 x49
          have hz1 : ¬ nI z = Int32.ofInt (-1) := nM_ne (by omega)
          repeat' (first
            | ((with_reducible refine @And.intro (vp_in _ _) _ ?_ ?_); (· (first | with_reducible assumption | ((with_reducible refine t_vin ?_); decide) | ((with_reducible refine vp_in_nI ?_ ?_) <;> first | omega | decide) | (simp (disch := omega) only [xl_n, xl_m, nI_dec, nI_sb, nI_add, pk_mul]; (with_reducible refine vp_in_nI ?_ ?_) <;> first | omega | decide))); (conv => whnf))
            | (refine And.intro (by first | with_reducible assumption | exact (show cL _ _ = _ from rfl) | decide) ?_; (conv => whnf))
            | ((with_reducible refine @And.intro (_ = _) _ ?_ ?_); (· rfl); (conv => whnf))
            | ((with_reducible refine @And.intro (@LE.le Nat _ _ _) _ ?_ ?_); (· (first | exact Nat.zero_le _ | exact Nat.le_of_ble_eq_true rfl | omega)); (conv => whnf))
            | ((with_reducible refine @And.intro (@LT.lt Nat _ _ _) _ ?_ ?_); (· omega); (conv => whnf))
            | ((with_reducible refine @And.intro (∃ _, _ = _) _ ?_ ?_); (· exact ⟨_, rfl⟩); (conv => whnf))
            | ((with_reducible refine @And.intro (_ ∨ _) _ ?_ ?_); (· (first | exact Or.inl rfl | exact Or.inr rfl | exact t_b01 _ | assumption)); (conv => whnf))
            | ((with_reducible refine @And.intro (¬ (_ = _)) _ ?_ ?_); (· first | assumption | (with_reducible assumption)); (conv => whnf))
            | (refine hX _ _ _ _ _ _ ?_; (conv => whnf); fail_if_success show False)
            | (rw [c_si]; (conv => whnf))
            | (refine ⟨_, rfl, ?_⟩; (conv => whnf))
            | (refine ⟨_, _, rfl, ?_⟩; (conv => whnf))
            | (refine ⟨_, _, _, rfl, ?_⟩; (conv => whnf))
            | (refine ⟨_, _, _, _, rfl, ?_⟩; (conv => whnf))
            | (refine ⟨_,_,_,L,rfl,hr,hokJ,hpJ,hkJ,hisJ,?_⟩; (conv => whnf))
            | (rw [em]; (conv => whnf))
            | (refine ⟨_,_,_,L,rfl,hr,hokJ,hpJ,hkJ,hlwJ,hwJ,?_⟩; (conv => whnf))
            | (rw [c_tl hr]; (conv => whnf))
            | (rw [c_t7 hr]; (conv => whnf))
            | (rw [c_tf hr (by decide)]; (conv => whnf))
            | (rw [c_t0 hr]; (conv => whnf))
            | (rw [c_t1 hr]; (conv => whnf))
            | (rw [c_t2 hr]; (conv => whnf))
            | (rw [c_t3 hr]; (conv => whnf))
            | (rw [c_t4 hr]; (conv => whnf))
            | (rw [c_t5 hr]; (conv => whnf))
            | (refine And.intro ⟨_, c_tl hr⟩ ?_; (conv => whnf))
            | (refine And.intro (fun c => ?_) (fun c => ?_) <;> (first | (exact absurd c (by decide +kernel)) | (exact absurd c (by assumption)) | (exact False.elim (c (by assumption))) | (conv => whnf)))
            | fail)
          intro M hM
          have hIM := hJ.tr hM
          have hwM : g_w (cA M r) := by rw [hIM.A hr]; exact hw
          have hokM := hIM.ok hok
          have hlwM := hIM.lw hlw
          have hpM : p < c_p M := by rw [hIM.h.2]; exact hp
          have hzM : z < c_h M := by rw [hIM.h.1]; omega
          (conv => whnf)
          repeat' (first
            | ((with_reducible refine @And.intro (vp_in _ _) _ ?_ ?_); (· (first | with_reducible assumption | ((with_reducible refine t_vin ?_); decide) | ((with_reducible refine vp_in_nI ?_ ?_) <;> first | omega | decide) | (simp (disch := omega) only [xl_n, xl_m, nI_dec, nI_sb, nI_add, pk_mul]; (with_reducible refine vp_in_nI ?_ ?_) <;> first | omega | decide))); (conv => whnf))
            | (refine And.intro (by first | with_reducible assumption | exact (show cL _ _ = _ from rfl) | decide) ?_; (conv => whnf))
            | ((with_reducible refine @And.intro (_ = _) _ ?_ ?_); (· rfl); (conv => whnf))
            | ((with_reducible refine @And.intro (@LE.le Nat _ _ _) _ ?_ ?_); (· (first | exact Nat.zero_le _ | exact Nat.le_of_ble_eq_true rfl | omega)); (conv => whnf))
            | ((with_reducible refine @And.intro (@LT.lt Nat _ _ _) _ ?_ ?_); (· omega); (conv => whnf))
            | ((with_reducible refine @And.intro (∃ _, _ = _) _ ?_ ?_); (· exact ⟨_, rfl⟩); (conv => whnf))
            | ((with_reducible refine @And.intro (_ ∨ _) _ ?_ ?_); (· (first | exact Or.inl rfl | exact Or.inr rfl | exact t_b01 _ | assumption)); (conv => whnf))
            | ((with_reducible refine @And.intro (¬ (_ = _)) _ ?_ ?_); (· first | assumption | (with_reducible assumption)); (conv => whnf))
            | (refine hX _ _ _ _ _ _ ?_; (conv => whnf); fail_if_success show False)
            | (rw [c_si]; (conv => whnf))
            | (refine ⟨_, rfl, ?_⟩; (conv => whnf))
            | (refine ⟨_, _, rfl, ?_⟩; (conv => whnf))
            | (refine ⟨_, _, _, rfl, ?_⟩; (conv => whnf))
            | (refine ⟨_, _, _, _, rfl, ?_⟩; (conv => whnf))
            | (refine ⟨_,_,_,L,rfl,hr,hokM,hpM,hzM,hlwM,hwM,?_⟩; (conv => whnf))
            | (rw [c_tl hr]; (conv => whnf))
            | (rw [c_t7 hr]; (conv => whnf))
            | (rw [c_tf hr (by decide)]; (conv => whnf))
            | (rw [c_t0 hr]; (conv => whnf))
            | (rw [c_t1 hr]; (conv => whnf))
            | (rw [c_t2 hr]; (conv => whnf))
            | (rw [c_t3 hr]; (conv => whnf))
            | (rw [c_t4 hr]; (conv => whnf))
            | (rw [c_t5 hr]; (conv => whnf))
            | (refine And.intro ⟨_, c_tl hr⟩ ?_; (conv => whnf))
            | (refine And.intro (fun c => ?_) (fun c => ?_) <;> (first | (exact absurd c (by decide +kernel)) | (conv => whnf)))
            | fail)
          intro N hN
          (conv => whnf)
          have hIN := hIM.tr hN
          have es : g_score (cK J L) (cA J r) p k = g_score (cK I L) (cA I r) p k := by rw [hJ.K, hJ.A hr]
          have ez : g_score (cK M L) (cA M r) p z = g_score (cK I L) (cA I r) p z := by rw [hIM.K, hIM.A hr]
          repeat' (first
            | ((with_reducible refine @And.intro (vp_in _ _) _ ?_ ?_); (· (first | with_reducible assumption | ((with_reducible refine t_vin ?_); decide) | ((with_reducible refine vp_in_nI ?_ ?_) <;> first | omega | decide) | (simp (disch := omega) only [xl_n, xl_m, nI_dec, nI_sb, nI_add, pk_mul]; (with_reducible refine vp_in_nI ?_ ?_) <;> first | omega | decide))); (conv => whnf))
            | (refine And.intro (by first | with_reducible assumption | exact (show cL _ _ = _ from rfl) | decide) ?_; (conv => whnf))
            | ((with_reducible refine @And.intro (_ = _) _ ?_ ?_); (· rfl); (conv => whnf))
            | ((with_reducible refine @And.intro (@LE.le Nat _ _ _) _ ?_ ?_); (· (first | exact Nat.zero_le _ | exact Nat.le_of_ble_eq_true rfl | omega)); (conv => whnf))
            | ((with_reducible refine @And.intro (@LT.lt Nat _ _ _) _ ?_ ?_); (· omega); (conv => whnf))
            | ((with_reducible refine @And.intro (∃ _, _ = _) _ ?_ ?_); (· exact ⟨_, rfl⟩); (conv => whnf))
            | ((with_reducible refine @And.intro (_ ∨ _) _ ?_ ?_); (· (first | exact Or.inl rfl | exact Or.inr rfl | exact t_b01 _ | assumption)); (conv => whnf))
            | ((with_reducible refine @And.intro (¬ (_ = _)) _ ?_ ?_); (· first | assumption | (with_reducible assumption)); (conv => whnf))
            | (refine hX _ _ _ _ _ _ ?_; (conv => whnf); fail_if_success show False)
            | (rw [c_si]; (conv => whnf))
            | (refine ⟨_, rfl, ?_⟩; (conv => whnf))
            | (refine ⟨_, _, rfl, ?_⟩; (conv => whnf))
            | (refine ⟨_, _, _, rfl, ?_⟩; (conv => whnf))
            | (refine ⟨_, _, _, _, rfl, ?_⟩; (conv => whnf))
            | (rw [es]; (conv => whnf))
            | (rw [ez]; (conv => whnf))
            | (refine And.intro (fun c => ?_) (fun c => ?_) <;> (first | (exact absurd c (by decide +kernel)) | (conv => whnf)))
            | fail)
          · have fin := x49 N hIN
            rw [if_neg (by simp; exact c)] at fin
            exact fin
          · exact x47 N (some (.int (nI z))) hIN (if_pos (by simpa using c))
  have fin := loop 0 (Nat.zero_le _) I c_fa.rf
  clear loop
  refine ⟨rfl, ?_⟩
  repeat' (first
    | ((with_reducible refine @And.intro (vp_in _ _) _ ?_ ?_); (· (first | with_reducible assumption | ((with_reducible refine t_vin ?_); decide) | ((with_reducible refine vp_in_nI ?_ ?_) <;> first | omega | decide) | (simp (disch := omega) only [xl_n, xl_m, nI_dec, nI_sb, nI_add, pk_mul]; (with_reducible refine vp_in_nI ?_ ?_) <;> first | omega | decide))); (conv => whnf))
    | (refine And.intro (by first | with_reducible assumption | exact (show cL _ _ = _ from rfl) | decide) ?_; (conv => whnf))
    | ((with_reducible refine @And.intro (_ = _) _ ?_ ?_); (· rfl); (conv => whnf))
    | ((with_reducible refine @And.intro (@LE.le Nat _ _ _) _ ?_ ?_); (· (first | exact Nat.zero_le _ | exact Nat.le_of_ble_eq_true rfl | omega)); (conv => whnf))
    | ((with_reducible refine @And.intro (@LT.lt Nat _ _ _) _ ?_ ?_); (· omega); (conv => whnf))
    | ((with_reducible refine @And.intro (∃ _, _ = _) _ ?_ ?_); (· exact ⟨_, rfl⟩); (conv => whnf))
    | ((with_reducible refine @And.intro (_ ∨ _) _ ?_ ?_); (· (first | exact Or.inl rfl | exact Or.inr rfl | exact t_b01 _ | assumption)); (conv => whnf))
    | ((with_reducible refine @And.intro (¬ (_ = _)) _ ?_ ?_); (· first | assumption | (with_reducible assumption)); (conv => whnf))
    | (refine hX _ _ _ _ _ _ ?_; (conv => whnf); fail_if_success show False)
    | (rw [c_si]; (conv => whnf))
    | (refine ⟨_, rfl, ?_⟩; (conv => whnf))
    | (refine ⟨_, _, rfl, ?_⟩; (conv => whnf))
    | (refine ⟨_, _, _, rfl, ?_⟩; (conv => whnf))
    | (refine ⟨_, _, _, _, rfl, ?_⟩; (conv => whnf))
    | (refine And.intro (fun c => ?_) (fun c => ?_) <;> (first | (exact absurd c (by decide +kernel)) | (conv => whnf)))
    | fail)
  exact fin
theorem ct_X10_chooses : xm_Ct cI yX10_chooses (ws_ yX10_chooses cX10_chooses 4 (some .int)) 161 0 0 S_X10_chooses := xm_enter (rt := 0) (init := false) (by decide +kernel) rfl (fun h => by cases h) (Or.inl ⟨rfl, rfl⟩) (oX10_chooses) body_X10_chooses
theorem cv_X10_chooses {own : String} {cc : ByteArray} {fr pc idx : Nat} (hdg : decode cc pc = .ok (.invokevirtual idx, 3)) (hl : xm_ml own idx yX10_chooses) (hfr : 161 < fr) : xm_CallOK cI own cc fr pc (pc + 3) 2 0 0 (xm_this 7 S_X10_chooses) := xm_callV 7 cI_good (ct_X10_chooses) hdg hl q907 q908 q144 q909 rfl rfl (by decide +kernel) hfr (by decide)
