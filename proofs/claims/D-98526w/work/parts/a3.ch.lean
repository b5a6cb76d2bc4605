/-! ===== a troupe: deaths, choices ===== -/
set_option maxRecDepth 100000
theorem t_has_0 (k : Nat) : t_has (nI 0) k = false := t_has_f (by
  refine b_ext fun i hi => ?_
  rw [b_and]
  have h1 : ∀ i, i < 32 → i ≠ 0 → bt (nI 1) i = false := by decide +kernel
  have h0 : ∀ i, i < 32 → bt (nI 0) i = false := by decide +kernel
  rw [h0 i hi]
  have e : nI 0 >>> (nI k &&& 31) = nI 0 := by
    apply Int32.toBitVec_inj.mp
    rw [Int32.toBitVec_shiftRight]
    show BitVec.sshiftRight' 0#32 _ = 0#32
    simp [BitVec.sshiftRight']
  rw [e, h0 i hi]
  rfl)
abbrev bX10_deaths_0 : List xE := [(.iconst 0, 1, 0, 0, 0), (.istore_n 1, 2, 0, 0, 0)]
abbrev bX10_deaths_2 : List xE := [(.iload_n 1, 3, 0, 0, 0), (.aload_n 0, 4, 0, 0, 0), (.getfield 3, 7, 7, 7, 1), (.getfield 38, 10, 0, 0, 1), (.getfield 42, 13, 1, 11, 0), (.if_icmp .ge 44, 16, 0, 57, 0), (.aload_n 0, 17, 0, 0, 0), (.getfield 3, 20, 7, 7, 1), (.getfield 38, 23, 0, 0, 1), (.getfield 120, 26, 1, 2, 1), (.iload_n 1, 27, 0, 0, 0), (.iaload, 28, 0, 0, 0), (.aload_n 0, 29, 0, 0, 0), (.getfield 34, 32, 7, 6, 0), (.if_icmp .ne 19, 35, 0, 51, 0), (.aload_n 0, 36, 0, 0, 0), (.getfield 15, 39, 7, 0, 1), (.iload_n 1, 40, 0, 0, 0), (.iaload, 41, 0, 0, 0), (.iconst 1, 42, 0, 0, 0), (.if_icmp .ne 9, 45, 0, 51, 0), (.aload_n 0, 46, 0, 0, 0), (.iload_n 1, 47, 0, 0, 0), (.invokevirtual 123, 50, 0, 0, 9), (.pop, 51, 0, 0, 0)]
abbrev bX10_deaths_51 : List xE := [(.iinc 1 1, 54, 0, 0, 0), (.goto (-52), 57, 0, 2, 0)]
abbrev bX10_deaths_57 : List xE := [(.return_, 58, 0, 0, 0)]
abbrev kX10_deaths : List (Nat × List xE) := [(0, bX10_deaths_0), (2, bX10_deaths_2), (51, bX10_deaths_51), (57, bX10_deaths_57)]
abbrev lX10_deaths : List (Nat × Nat × Nat × xS) := [(2, 0, 0, xm_this 7 S_X10_dies)]
theorem oX10_deaths_0  : xm_okb cI RX10 cX10_deaths false 4 lX10_deaths bX10_deaths_0 0 := xo_0 dX10_deaths_0 rfl trivial (xo_0 dX10_deaths_1 rfl trivial (xo_n))
theorem oX10_deaths_2  : xm_okb cI RX10 cX10_deaths false 4 lX10_deaths bX10_deaths_2 2 := xo_0 dX10_deaths_2 rfl trivial (xo_0 dX10_deaths_3 rfl trivial (xo_1 dX10_deaths_4 rfl (xm_fg_of (Or.inl q676) (by decide) rfl (by decide) rfl rfl (Or.inl rfl) rfl) (xo_1 dX10_deaths_7 rfl (xm_fg_of (Or.inr ⟨_, q717⟩) (by decide) rfl (by decide) rfl rfl (Or.inl rfl) rfl) (xo_0 dX10_deaths_10 rfl (xm_fg_of (Or.inr ⟨_, q553⟩) (by decide) rfl (by decide) rfl rfl (Or.inl rfl) rfl) (xo_0 dX10_deaths_13 rfl rfl (xo_0 dX10_deaths_16 rfl trivial (xo_1 dX10_deaths_17 rfl (xm_fg_of (Or.inl q676) (by decide) rfl (by decide) rfl rfl (Or.inl rfl) rfl) (xo_1 dX10_deaths_20 rfl (xm_fg_of (Or.inr ⟨_, q717⟩) (by decide) rfl (by decide) rfl rfl (Or.inl rfl) rfl) (xo_1 dX10_deaths_23 rfl (xm_fg_of (Or.inr ⟨_, q524⟩) (by decide) rfl (by decide) rfl rfl (Or.inl rfl) rfl) (xo_0 dX10_deaths_26 rfl trivial (xo_0 dX10_deaths_27 rfl trivial (xo_0 dX10_deaths_28 rfl trivial (xo_0 dX10_deaths_29 rfl (xm_fg_of (Or.inl q674) (by decide) rfl (by decide) rfl rfl (Or.inl rfl) rfl) (xo_0 dX10_deaths_32 rfl rfl (xo_0 dX10_deaths_35 rfl trivial (xo_1 dX10_deaths_36 rfl (xm_fg_of (Or.inl q662) (by decide) rfl (by decide) rfl rfl (Or.inl rfl) rfl) (xo_0 dX10_deaths_39 rfl trivial (xo_0 dX10_deaths_40 rfl trivial (xo_0 dX10_deaths_41 rfl trivial (xo_0 dX10_deaths_42 rfl rfl (xo_0 dX10_deaths_45 rfl trivial (xo_0 dX10_deaths_46 rfl trivial (xo_c rfl (cv_X10_dies dX10_deaths_47 (Or.inl q884) (by decide)) (xo_0 dX10_deaths_50 rfl trivial (xo_n)))))))))))))))))))))))))
theorem oX10_deaths_51  : xm_okb cI RX10 cX10_deaths false 4 lX10_deaths bX10_deaths_51 51 := xo_0 dX10_deaths_51 rfl trivial (xo_0 dX10_deaths_54 rfl rfl (xo_n))
theorem oX10_deaths_57  : xm_okb cI RX10 cX10_deaths false 4 lX10_deaths bX10_deaths_57 57 := xo_0 dX10_deaths_57 rfl trivial (xo_n)
theorem oX10_deaths  : ∀ q ∈ kX10_deaths, xm_okb cI RX10 cX10_deaths false 4 lX10_deaths q.2 q.1 := by
  intro q hq
  simp only [List.mem_cons, List.not_mem_nil, or_false] at hq
  rcases hq with rfl | rfl | rfl | rfl
  · exact oX10_deaths_0  
  · exact oX10_deaths_2  
  · exact oX10_deaths_51  
  · exact oX10_deaths_57  
def S_X10_deaths : xS := cU fun as P X I Q QX => ∃ r L, as = [.ref r] ∧ c_ts P X I r L ∧ ∀ J, c_sc r I J → c_ts P X J r L → cA J r = g_deaths (cK I L) (nI 0) (c_h I) (cA I r) → Q none J
theorem body_X10_deaths : xm_Body 2 2 0 0 [] lX10_deaths kX10_deaths S_X10_deaths := by
  intro X avs w Q QX hX0 hS
  have hG := xm_go [] hX0
  have hX := xm_go [2, 51] hX0
  clear hX0
  obtain ⟨P, Z, I, rfl, r, L, rfl, ht, hQ⟩ := hS
  obtain ⟨hn, h9, hm, h8⟩ := id ht.2.1
  have hr := ht.1
  have hrn := hr.ne
  have loop : ∀ k, k ≤ c_h I → ∀ J, c_sc r I J → c_ts P Z J r L → cA J r = g_deaths (cK I L) (nI 0) k (cA I r) → X 2 [some (.ref r), some (.int (nI k))] [] (cW P Z J) 0 0 := by
    refine t_for fun k h1 ih J hJ hts hA => ?_
    have hnJ : J 1 11 = nI (c_h I) := by rw [hJ.e1 hr]; exact hn
    have x51 : k < c_h I → ∀ N, c_sc r I N → c_ts P Z N r L → cA N r = g_deaths (cK I L) (nI 0) (k + 1) (cA I r) → X 51 [some (.ref r), some (.int (nI k))] [] (cW P Z N) 0 0 := by
      intro hk N n1 n2 n3
      have := ih (k + 1) (by omega) (by omega) N n1 n2 n3
      clear ih
      refine hG _ _ _ _ _ _ ?_
      (conv => whnf)
      repeat' (first
        | ((with_reducible refine @And.intro (vp_in _ _) _ ?_ ?_); (· (first | with_reducible assumption | ((with_reducible refine t_vin ?_); decide) | ((with_reducible refine vp_in_nI ?_ ?_) <;> first | omega | decide) | (simp (disch := omega) only [xl_n, xl_m, nI_dec, nI_sb, nI_add, pk_mul]; (with_reducible refine vp_in_nI ?_ ?_) <;> first | omega | decide))); (conv => whnf))
        | (refine And.intro (by first | with_reducible assumption | exact (show cL _ _ = _ from rfl) | decide) ?_; (conv => whnf))
        | ((with_reducible refine @And.intro (_ = _) _ ?_ ?_); (· rfl); (conv => whnf))
        | ((with_reducible refine @And.intro (@LE.le Nat _ _ _) _ ?_ ?_); (· (first | exact Nat.zero_le _ | exact Nat.le_of_ble_eq_true rfl | omega)); (conv => whnf))
        | ((with_reducible refine @And.intro (@LT.lt Nat _ _ _) _ ?_ ?_); (· omega); (conv => whnf))
        | ((with_reducible refine @And.intro (∃ _, _ = _) _ ?_ ?_); (· exact ⟨_, rfl⟩); (conv => whnf))
        | ((with_reducible refine @And.intro (_ ∨ _) _ ?_ ?_); (· (first | exact Or.inl rfl | exact Or.inr rfl | exact t_b01 _ | assumption)); (conv => whnf))
        | ((with_reducible refine @And.intro (¬ (_ = _)) _ ?_ ?_); (· first | assumption | (with_reducible assumption)); (conv => whnf))
        | (refine hX _ _ _ _ _ _ ?_; (conv => whnf); fail_if_success show False)
        | (rw [c_si]; (conv => whnf))
        | (refine ⟨_, rfl, ?_⟩; (conv => whnf))
        | (refine ⟨_, _, rfl, ?_⟩; (conv => whnf))
        | (refine ⟨_, _, _, rfl, ?_⟩; (conv => whnf))
        | (refine ⟨_, _, _, _, rfl, ?_⟩; (conv => whnf))
        | (refine And.intro (fun c => ?_) (fun c => ?_) <;> (first | (exact absurd c (by decide +kernel)) | (conv => whnf)))
        | fail)
      clear hX hG
      simp (disch := omega) only [xl_n, xl_m, nI_dec, nI_sb, xl_0, xl_1, cW_i, Nat.add_zero, Nat.reduceAdd, Nat.reduceMul, t_bn0, t_bn1, Classical.not_not, t_lt, nI_add, nI_1, pk_mul, nI_clamp, c_si, nI_eq, nI_leI, nM_ne, nM_ne, xm_set] at *
      exact this
    clear ih
    refine hG _ _ _ _ _ _ ?_
    (conv => whnf)
    repeat' (first
      | ((with_reducible refine @And.intro (vp_in _ _) _ ?_ ?_); (· (first | with_reducible assumption | ((with_reducible refine t_vin ?_); decide) | ((with_reducible refine vp_in_nI ?_ ?_) <;> first | omega | decide) | (simp (disch := omega) only [xl_n, xl_m, nI_dec, nI_sb, nI_add, pk_mul]; (with_reducible refine vp_in_nI ?_ ?_) <;> first | omega | decide))); (conv => whnf))
      | (refine And.intro (by first | with_reducible assumption | exact (show cL _ _ = _ from rfl) | decide) ?_; (conv => whnf))
      | ((with_reducible refine @And.intro (_ = _) _ ?_ ?_); (· rfl); (conv => whnf))
      | ((with_reducible refine @And.intro (@LE.le Nat _ _ _) _ ?_ ?_); (· (first | exact Nat.zero_le _ | exact Nat.le_of_ble_eq_true rfl | omega)); (conv => whnf))
      | ((with_reducible refine @And.intro (@LT.lt Nat _ _ _) _ ?_ ?_); (· omega); (conv => whnf))
      | ((with_reducible refine @And.intro (∃ _, _ = _) _ ?_ ?_); (· exact ⟨_, rfl⟩); (conv => whnf))
      | ((with_reducible refine @And.intro (_ ∨ _) _ ?_ ?_); (· (first | exact Or.inl rfl | exact Or.inr rfl | exact t_b01 _ | assumption)); (conv => whnf))
      | ((with_reducible refine @And.intro (¬ (_ = _)) _ ?_ ?_); (· first | assumption | (with_reducible assumption)); (conv => whnf))
      | (refine hX _ _ _ _ _ _ ?_; (conv => whnf); fail_if_success show False)
      | (rw [c_si]; (conv => whnf))
      | (refine ⟨_, rfl, ?_⟩; (conv => whnf))
      | (refine ⟨_, _, rfl, ?_⟩; (conv => whnf))
      | (refine ⟨_, _, _, rfl, ?_⟩; (conv => whnf))
      | (refine ⟨_, _, _, _, rfl, ?_⟩; (conv => whnf))
      | (rw [c_tl hr]; (conv => whnf))
      | (rw [c_t7 hr]; (conv => whnf))
      | (rw [c_tf hr (by decide)]; (conv => whnf))
      | (rw [c_t0 hr]; (conv => whnf))
      | (rw [c_t1 hr]; (conv => whnf))
      | (rw [c_t2 hr]; (conv => whnf))
      | (rw [c_t3 hr]; (conv => whnf))
      | (rw [c_t4 hr]; (conv => whnf))
      | (rw [c_t5 hr]; (conv => whnf))
      | (refine And.intro ⟨_, c_tl hr⟩ ?_; (conv => whnf))
      | fail)
    refine And.intro (fun c => ?_) (fun c => ?_) <;> (conv => whnf)
    · repeat' (first
        | ((with_reducible refine @And.intro (vp_in _ _) _ ?_ ?_); (· (first | with_reducible assumption | ((with_reducible refine t_vin ?_); decide) | ((with_reducible refine vp_in_nI ?_ ?_) <;> first | omega | decide) | (simp (disch := omega) only [xl_n, xl_m, nI_dec, nI_sb, nI_add, pk_mul]; (with_reducible refine vp_in_nI ?_ ?_) <;> first | omega | decide))); (conv => whnf))
        | (refine And.intro (by first | with_reducible assumption | exact (show cL _ _ = _ from rfl) | decide) ?_; (conv => whnf))
        | ((with_reducible refine @And.intro (_ = _) _ ?_ ?_); (· rfl); (conv => whnf))
        | ((with_reducible refine @And.intro (@LE.le Nat _ _ _) _ ?_ ?_); (· (first | exact Nat.zero_le _ | exact Nat.le_of_ble_eq_true rfl | omega)); (conv => whnf))
        | ((with_reducible refine @And.intro (@LT.lt Nat _ _ _) _ ?_ ?_); (· omega); (conv => whnf))
        | ((with_reducible refine @And.intro (∃ _, _ = _) _ ?_ ?_); (· exact ⟨_, rfl⟩); (conv => whnf))
        | ((with_reducible refine @And.intro (_ ∨ _) _ ?_ ?_); (· (first | exact Or.inl rfl | exact Or.inr rfl | exact t_b01 _ | assumption)); (conv => whnf))
        | ((with_reducible refine @And.intro (¬ (_ = _)) _ ?_ ?_); (· first | assumption | (with_reducible assumption)); (conv => whnf))
        | (refine hX _ _ _ _ _ _ ?_; (conv => whnf); fail_if_success show False)
        | (rw [c_si]; (conv => whnf))
        | (refine ⟨_, rfl, ?_⟩; (conv => whnf))
        | (refine ⟨_, _, rfl, ?_⟩; (conv => whnf))
        | (refine ⟨_, _, _, rfl, ?_⟩; (conv => whnf))
        | (refine ⟨_, _, _, _, rfl, ?_⟩; (conv => whnf))
        | fail)
      have : k = c_h I := Nat.le_antisymm h1 (t_kge hnJ c (by omega) (by omega))
      subst this
      exact hQ J hJ hts hA
    · have hk : k < c_h I := t_klt hnJ c (by omega)
      have hkJ : k < c_h J := by rw [(hJ.h hr).1]; exact hk
      have x51 := x51 hk
      have e := c_is_ald (L := L) hts.2.2.1 hkJ
      rw [hJ.K hr] at e
      have ed : gdies (cK I L) k = J 32 k := by rw [cK_dies hk, hJ 32 (by decide) (by omega) (by omega)]
      rw [g_deaths_s, ← hA, e, ed, cA_gy, t_has_0, Bool.or_false] at x51
      have ek : (nI k).toNatClampNeg = k := nI_clamp (by omega)
      have nx : ¬ (J (10 * r) k = nI 1 ∧ J 32 k = J r 6) → X 51 [some (.ref r), some (.int (nI k))] [] (cW P Z J) 0 0 := fun h => x51 J hJ hts (by
        rw [if_neg]
        intro q
        rw [Bool.and_eq_true, decide_eq_true_eq, decide_eq_true_eq] at q
        exact h q)
      have nd : J (10 * r) k = nI 1 → J 32 k = J r 6 → ∀ N, c_sc r I N → c_ts P Z N r L → cA N r = g_die (cK I L) (cA J r) k → X 51 [some (.ref r), some (.int (nI k))] [] (cW P Z N) 0 0 := fun q1 q2 N n1 n2 n3 => x51 N n1 n2 (by
        rw [n3, if_pos]
        rw [Bool.and_eq_true, decide_eq_true_eq, decide_eq_true_eq]
        exact ⟨q1, q2⟩)
      clear x51
      have eK := hJ.K (L := L) hr
      repeat' (first
        | ((with_reducible refine @And.intro (vp_in _ _) _ ?_ ?_); (· (first | with_reducible assumption | ((with_reducible refine t_vin ?_); decide) | ((with_reducible refine vp_in_nI ?_ ?_) <;> first | omega | decide) | (simp (disch := omega) only [xl_n, xl_m, nI_dec, nI_sb, nI_add, pk_mul]; (with_reducible refine vp_in_nI ?_ ?_) <;> first | omega | decide))); (conv => whnf))
        | (refine And.intro (by first | with_reducible assumption | exact (show cL _ _ = _ from rfl) | decide) ?_; (conv => whnf))
        | ((with_reducible refine @And.intro (_ = _) _ ?_ ?_); (· rfl); (conv => whnf))
        | ((with_reducible refine @And.intro (@LE.le Nat _ _ _) _ ?_ ?_); (· (first | exact Nat.zero_le _ | exact Nat.le_of_ble_eq_true rfl | omega)); (conv => whnf))
        | ((with_reducible refine @And.intro (@LT.lt Nat _ _ _) _ ?_ ?_); (· omega); (conv => whnf))
        | ((with_reducible refine @And.intro (∃ _, _ = _) _ ?_ ?_); (· exact ⟨_, rfl⟩); (conv => whnf))
        | ((with_reducible refine @And.intro (_ ∨ _) _ ?_ ?_); (· (first | exact Or.inl rfl | exact Or.inr rfl | exact t_b01 _ | assumption)); (conv => whnf))
        | ((with_reducible refine @And.intro (¬ (_ = _)) _ ?_ ?_); (· first | assumption | (with_reducible assumption)); (conv => whnf))
        | (refine hX _ _ _ _ _ _ ?_; (conv => whnf); fail_if_success show False)
        | (rw [c_si]; (conv => whnf))
        | (refine ⟨_, rfl, ?_⟩; (conv => whnf))
        | (refine ⟨_, _, rfl, ?_⟩; (conv => whnf))
        | (refine ⟨_, _, _, rfl, ?_⟩; (conv => whnf))
        | (refine ⟨_, _, _, _, rfl, ?_⟩; (conv => whnf))
        | (refine ⟨_,_,L,rfl,hts,hkJ,?_⟩; (conv => whnf))
        | (rw [c_tl hr]; (conv => whnf))
        | (rw [c_t7 hr]; (conv => whnf))
        | (rw [c_tf hr (by decide)]; (conv => whnf))
        | (rw [c_t0 hr]; (conv => whnf))
        | (rw [c_t1 hr]; (conv => whnf))
        | (rw [c_t2 hr]; (conv => whnf))
        | (rw [c_t3 hr]; (conv => whnf))
        | (rw [c_t4 hr]; (conv => whnf))
        | (rw [c_t5 hr]; (conv => whnf))
        | (refine And.intro ⟨_, c_tl hr⟩ ?_; (conv => whnf))
        | (refine And.intro (fun c => ?_) (fun c => ?_) <;> (first | (exact absurd c (by decide +kernel)) | (conv => whnf)))
        | fail)
      · exact nx fun q => by
          have c1 : ¬ J 32 (nI k).toNatClampNeg = J r 6 := c
          rw [ek] at c1
          exact c1 q.2
      · exact nx fun q => by
          have c1 : ¬ J (10 * r) (nI k).toNatClampNeg = nI 1 := c
          rw [ek] at c1
          exact c1 q.1
      · intro N hN hNt hNA
        (conv => whnf)
        have c1 : ¬ ¬ J (10 * r) (nI k).toNatClampNeg = nI 1 := c
        have c0 := (by assumption : ¬ (fun x y : Int32 => ¬ x = y) ((cW P Z J).2.1 32 (nI k).toNatClampNeg) ((cW P Z J).2.1 r 6))
        have c2 : ¬ ¬ J 32 (nI k).toNatClampNeg = J r 6 := c0
        rw [ek, Classical.not_not] at c1 c2
        have fin := nd c1 c2 N (hJ.tr hN) hNt (by rw [hNA, eK])
        clear nx nd
        repeat' (first
          | ((with_reducible refine @And.intro (vp_in _ _) _ ?_ ?_); (· (first | with_reducible assumption | ((with_reducible refine t_vin ?_); decide) | ((with_reducible refine vp_in_nI ?_ ?_) <;> first | omega | decide) | (simp (disch := omega) only [xl_n, xl_m, nI_dec, nI_sb, nI_add, pk_mul]; (with_reducible refine vp_in_nI ?_ ?_) <;> first | omega | decide))); (conv => whnf))
          | (refine And.intro (by first | with_reducible assumption | exact (show cL _ _ = _ from rfl) | decide) ?_; (conv => whnf))
          | ((with_reducible refine @And.intro (_ = _) _ ?_ ?_); (· rfl); (conv => whnf))
          | ((with_reducible refine @And.intro (@LE.le Nat _ _ _) _ ?_ ?_); (· (first | exact Nat.zero_le _ | exact Nat.le_of_ble_eq_true rfl | omega)); (conv => whnf))
          | ((with_reducible refine @And.intro (@LT.lt Nat _ _ _) _ ?_ ?_); (· omega); (conv => whnf))
          | ((with_reducible refine @And.intro (∃ _, _ = _) _ ?_ ?_); (· exact ⟨_, rfl⟩); (conv => whnf))
          | ((with_reducible refine @And.intro (_ ∨ _) _ ?_ ?_); (· (first | exact Or.inl rfl | exact Or.inr rfl | exact t_b01 _ | assumption)); (conv => whnf))
          | ((with_reducible refine @And.intro (¬ (_ = _)) _ ?_ ?_); (· first | assumption | (with_reducible assumption)); (conv => whnf))
          | (refine hX _ _ _ _ _ _ ?_; (conv => whnf); fail_if_success show False)
          | (rw [c_si]; (conv => whnf))
          | (refine ⟨_, rfl, ?_⟩; (conv => whnf))
          | (refine ⟨_, _, rfl, ?_⟩; (conv => whnf))
          | (refine ⟨_, _, _, rfl, ?_⟩; (conv => whnf))
          | (refine ⟨_, _, _, _, rfl, ?_⟩; (conv => whnf))
          | (refine And.intro (fun c => ?_) (fun c => ?_) <;> (first | (exact absurd c (by decide +kernel)) | (conv => whnf)))
          | fail)
        exact fin
  have fin := loop 0 (Nat.zero_le _) I c_sc.rf ht rfl
  clear loop
  refine ⟨rfl, ?_⟩
  repeat' (first
    | ((with_reducible refine @And.intro (vp_in _ _) _ ?_ ?_); (· (first | with_reducible assumption | ((with_reducible refine t_vin ?_); decide) | ((with_reducible refine vp_in_nI ?_ ?_) <;> first | omega | decide) | (simp (disch := omega) only [xl_n, xl_m, nI_dec, nI_sb, nI_add, pk_mul]; (with_reducible refine vp_in_nI ?_ ?_) <;> first | omega | decide))); (conv => whnf))
    | (refine And.intro (by first | with_reducible assumption | exact (show cL _ _ = _ from rfl) | decide) ?_; (conv => whnf))
    | ((with_reducible refine @And.intro (_ = _) _ ?_ ?_); (· rfl); (conv => whnf))
    | ((with_reducible refine @And.intro (@LE.le Nat _ _ _) _ ?_ ?_); (· (first | exact Nat.zero_le _ | exact Nat.le_of_ble_eq_true rfl | omega)); (conv => whnf))
    | ((with_reducible refine @And.intro (@LT.lt Nat _ _ _) _ ?_ ?_); (· omega); (conv => whnf))
    | ((with_reducible refine @And.intro (∃ _, _ = _) _ ?_ ?_); (· exact ⟨_, rfl⟩); (conv => whnf))
    | ((with_reducible refine @And.intro (_ ∨ _) _ ?_ ?_); (· (first | exact Or.inl rfl | exact Or.inr rfl | exact t_b01 _ | assumption)); (conv => whnf))
    | ((with_reducible refine @And.intro (¬ (_ = _)) _ ?_ ?_); (· first | assumption | (with_reducible assumption)); (conv => whnf))
    | (refine hX _ _ _ _ _ _ ?_; (conv => whnf); fail_if_success show False)
    | (rw [c_si]; (conv => whnf))
    | (refine ⟨_, rfl, ?_⟩; (conv => whnf))
    | (refine ⟨_, _, rfl, ?_⟩; (conv => whnf))
    | (refine ⟨_, _, _, rfl, ?_⟩; (conv => whnf))
    | (refine ⟨_, _, _, _, rfl, ?_⟩; (conv => whnf))
    | (refine And.intro (fun c => ?_) (fun c => ?_) <;> (first | (exact absurd c (by decide +kernel)) | (conv => whnf)))
    | fail)
  exact fin
theorem ct_X10_deaths : xm_Ct cI yX10_deaths (ws_ yX10_deaths cX10_deaths 2 none) 4 0 0 S_X10_deaths := xm_enter (rt := 2) (init := false) (by decide +kernel) rfl (fun h => by cases h) (Or.inr (Or.inr (Or.inl ⟨rfl, rfl⟩))) (oX10_deaths) body_X10_deaths
theorem cv_X10_deaths {own : String} {cc : ByteArray} {fr pc idx : Nat} (hdg : decode cc pc = .ok (.invokevirtual idx, 3)) (hl : xm_ml own idx yX10_deaths) (hfr : 4 < fr) : xm_CallOK cI own cc fr pc (pc + 3) 1 0 0 (xm_this 7 S_X10_deaths) := xm_callV 7 cI_good (ct_X10_deaths) hdg hl q881 q882 q144 q883 rfl rfl (by decide +kernel) hfr (by decide)
