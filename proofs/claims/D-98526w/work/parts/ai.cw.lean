/-! ===== the component: gets ===== -/
set_option maxRecDepth 100000
abbrev bX1_gets_0 : List xE := [(.aload_n 0, 1, 0, 0, 0), (.iload_n 1, 2, 0, 0, 0), (.invokevirtual 217, 5, 0, 0, 9), (.aload_n 0, 6, 0, 0, 0), (.iload_n 2, 7, 0, 0, 0), (.ifCond .lt 23, 10, 0, 30, 0), (.iload_n 2, 11, 0, 0, 0), (.sipush 999, 14, 0, 0, 0), (.if_icmp .gt 16, 17, 0, 30, 0), (.iload_n 3, 18, 0, 0, 0), (.ifCond .eq 8, 21, 0, 26, 0), (.iload_n 3, 22, 0, 0, 0), (.iconst 1, 23, 0, 0, 0), (.if_icmp .ne 7, 26, 0, 30, 0)]
abbrev bX1_gets_26 : List xE := [(.iconst 1, 27, 0, 0, 0), (.goto 4, 30, 0, 31, 0)]
abbrev bX1_gets_30 : List xE := [(.iconst 0, 31, 0, 0, 0)]
abbrev bX1_gets_31 : List xE := [(.invokevirtual 160, 34, 0, 1, 9), (.aload_n 0, 35, 0, 0, 0), (.iload_n 1, 36, 0, 0, 0), (.invokevirtual 368, 39, 0, 2, 9), (.istore 4, 41, 0, 0, 0), (.aload_n 0, 42, 0, 0, 0), (.sipush 999, 45, 0, 0, 0), (.invokevirtual 371, 48, 0, 3, 9), (.istore 5, 50, 0, 0, 0), (.iload_n 2, 51, 0, 0, 0), (.iload 5, 53, 0, 0, 0), (.if_icmp .lt 6, 56, 0, 59, 0), (.iload 4, 58, 0, 0, 0), (.ireturn, 59, 0, 0, 0)]
abbrev bX1_gets_59 : List xE := [(.iload_n 3, 60, 0, 0, 0), (.ifCond .ne 11, 63, 0, 71, 0), (.iload_n 2, 64, 0, 0, 0), (.iload 4, 66, 0, 0, 0), (.imul, 67, 0, 0, 0), (.iload 5, 69, 0, 0, 0), (.idiv, 70, 0, 0, 0), (.ireturn, 71, 0, 0, 0)]
abbrev bX1_gets_71 : List xE := [(.iconst 0, 72, 0, 0, 0), (.istore 6, 74, 0, 0, 0)]
abbrev bX1_gets_74 : List xE := [(.aload_n 0, 75, 0, 0, 0), (.iload 6, 77, 0, 0, 0), (.iconst 1, 78, 0, 0, 0), (.iadd, 79, 0, 0, 0), (.invokevirtual 371, 82, 0, 3, 9), (.iload_n 2, 83, 0, 0, 0), (.if_icmp .gt 9, 86, 0, 92, 0), (.iinc 6 1, 89, 0, 0, 0), (.goto (-15), 92, 0, 74, 0)]
abbrev bX1_gets_92 : List xE := [(.iload 4, 94, 0, 0, 0), (.iload 6, 96, 0, 0, 0), (.invokestatic 288, 99, 0, 4, 9), (.ireturn, 100, 0, 0, 0)]
abbrev kX1_gets : List (Nat × List xE) := [(0, bX1_gets_0), (26, bX1_gets_26), (30, bX1_gets_30), (31, bX1_gets_31), (59, bX1_gets_59), (71, bX1_gets_71), (74, bX1_gets_74), (92, bX1_gets_92)]
abbrev lX1_gets : List (Nat × Nat × Nat × xS) := [(2, 1, 6, xm_this 0 S_X1_needHand), (2, 1, 6, xm_this 0 S_X1_need), (2, 0, 0, xm_this 0 S_X1_claimOf), (2, 0, 0, xm_this 0 S_X1_levelled), (2, 0, 0, S_J12_min)]
theorem oX1_gets_0  : xm_okb cI RX1 cX1_gets false 8 lX1_gets bX1_gets_0 0 := xo_0 dX1_gets_0 rfl trivial (xo_0 dX1_gets_1 rfl trivial (xo_c rfl (cv_X1_needHand dX1_gets_2 (Or.inl q1576) (by decide)) (xo_0 dX1_gets_5 rfl trivial (xo_0 dX1_gets_6 rfl trivial (xo_0 dX1_gets_7 rfl rfl (xo_0 dX1_gets_10 rfl trivial (xo_0 dX1_gets_11 rfl (xo_sipush (by decide +kernel)) (xo_0 dX1_gets_14 rfl rfl (xo_0 dX1_gets_17 rfl trivial (xo_0 dX1_gets_18 rfl rfl (xo_0 dX1_gets_21 rfl trivial (xo_0 dX1_gets_22 rfl trivial (xo_0 dX1_gets_23 rfl rfl (xo_n))))))))))))))
theorem oX1_gets_26  : xm_okb cI RX1 cX1_gets false 8 lX1_gets bX1_gets_26 26 := xo_0 dX1_gets_26 rfl trivial (xo_0 dX1_gets_27 rfl rfl (xo_n))
theorem oX1_gets_30  : xm_okb cI RX1 cX1_gets false 8 lX1_gets bX1_gets_30 30 := xo_0 dX1_gets_30 rfl trivial (xo_n)
theorem oX1_gets_31  : xm_okb cI RX1 cX1_gets false 8 lX1_gets bX1_gets_31 31 := xo_c rfl (cv_X1_need dX1_gets_31 (Or.inl q1030) (by decide)) (xo_0 dX1_gets_34 rfl trivial (xo_0 dX1_gets_35 rfl trivial (xo_c rfl (cv_X1_claimOf dX1_gets_36 (Or.inl q1801) (by decide)) (xo_0 dX1_gets_39 rfl trivial (xo_0 dX1_gets_41 rfl trivial (xo_0 dX1_gets_42 rfl (xo_sipush (by decide +kernel)) (xo_c rfl (cv_X1_levelled dX1_gets_45 (Or.inl q1805) (by decide)) (xo_0 dX1_gets_48 rfl trivial (xo_0 dX1_gets_50 rfl trivial (xo_0 dX1_gets_51 rfl trivial (xo_0 dX1_gets_53 rfl rfl (xo_0 dX1_gets_56 rfl trivial (xo_0 dX1_gets_58 rfl trivial (xo_n))))))))))))))
theorem oX1_gets_59  : xm_okb cI RX1 cX1_gets false 8 lX1_gets bX1_gets_59 59 := xo_0 dX1_gets_59 rfl trivial (xo_0 dX1_gets_60 rfl rfl (xo_0 dX1_gets_63 rfl trivial (xo_0 dX1_gets_64 rfl trivial (xo_0 dX1_gets_66 rfl trivial (xo_0 dX1_gets_67 rfl trivial (xo_0 dX1_gets_69 rfl trivial (xo_0 dX1_gets_70 rfl trivial (xo_n))))))))
theorem oX1_gets_71  : xm_okb cI RX1 cX1_gets false 8 lX1_gets bX1_gets_71 71 := xo_0 dX1_gets_71 rfl trivial (xo_0 dX1_gets_72 rfl trivial (xo_n))
theorem oX1_gets_74  : xm_okb cI RX1 cX1_gets false 8 lX1_gets bX1_gets_74 74 := xo_0 dX1_gets_74 rfl trivial (xo_0 dX1_gets_75 rfl trivial (xo_0 dX1_gets_77 rfl trivial (xo_0 dX1_gets_78 rfl trivial (xo_c rfl (cv_X1_levelled dX1_gets_79 (Or.inl q1805) (by decide)) (xo_0 dX1_gets_82 rfl trivial (xo_0 dX1_gets_83 rfl rfl (xo_0 dX1_gets_86 rfl trivial (xo_0 dX1_gets_89 rfl rfl (xo_n)))))))))
theorem oX1_gets_92  : xm_okb cI RX1 cX1_gets false 8 lX1_gets bX1_gets_92 92 := xo_0 dX1_gets_92 rfl trivial (xo_0 dX1_gets_94 rfl trivial (xo_c rfl (xc_min dX1_gets_96 q1652 (by decide)) (xo_0 dX1_gets_99 rfl trivial (xo_n))))
theorem oX1_gets  : ∀ q ∈ kX1_gets, xm_okb cI RX1 cX1_gets false 8 lX1_gets q.2 q.1 := by
  intro q hq
  simp only [List.mem_cons, List.not_mem_nil, or_false] at hq
  rcases hq with rfl | rfl | rfl | rfl | rfl | rfl | rfl | rfl
  · exact oX1_gets_0  
  · exact oX1_gets_26  
  · exact oX1_gets_30  
  · exact oX1_gets_31  
  · exact oX1_gets_59  
  · exact oX1_gets_71  
  · exact oX1_gets_74  
  · exact oX1_gets_92  
def S_X1_gets : xS := cU fun as P Z I Q QX => ∃ a b d L, as = [.ref 0, .int a, .int b, .int d] ∧ c_good P Z I L ∧ g_ok (cG P I L) ∧ c_P P Z L (cG P I L) Q QX (q_gets (cG P I L) a b d)
theorem body_X1_gets : xm_Body 7 0 2 12 [] lX1_gets kX1_gets S_X1_gets := by
  intro X avs w Q QX hX0 hS
  have hG := xm_go [] hX0
  have hX := xm_go [74] hX0
  clear hX0
  obtain ⟨P, Z, I, rfl, a, b, d, L, rfl, hg, hk0, hQ⟩ := hS
  have hok := hg.ok
  obtain ⟨hn, h9, hm, h8⟩ := id hok
  refine ⟨rfl, ?_⟩
  repeat' (first
    | ((with_reducible refine @And.intro (vp_in _ _) _ ?_ ?_); (· (first | with_reducible assumption | ((with_reducible refine t_vin ?_); decide) | ((with_reducible refine vp_in_nI ?_ ?_) <;> first | omega | decide) | (simp (disch := omega) only [xl_n, xl_m, nI_dec, nI_sb, nI_add, pk_mul]; (with_reducible refine vp_in_nI ?_ ?_) <;> first | omega | decide))); (conv => whnf))
    | (refine And.intro (by first | with_reducible assumption | exact (show cL _ _ = _ from rfl) | decide) ?_; (conv => whnf))
    | ((with_reducible refine @And.intro (_ = _) _ ?_ ?_); (· rfl); (conv => whnf))
    | ((with_reducible refine @And.intro (@LE.le Nat _ _ _) _ ?_ ?_); (· (first | exact Nat.zero_le _ | exact Nat.le_of_ble_eq_true rfl | omega)); (conv => whnf))
    | ((with_reducible refine @And.intro (@LT.lt Nat _ _ _) _ ?_ ?_); (· omega); (conv => whnf))
    | ((with_reducible refine @And.intro (∃ _, _ = _) _ ?_ ?_); (· exact ⟨_, rfl⟩); (conv => whnf))
    | ((with_reducible refine @And.intro (_ ∨ _) _ ?_ ?_); (· (first | exact Or.inl rfl | exact Or.inr rfl | exact t_b01 _ | assumption)); (conv => whnf))
    | ((with_reducible refine @And.intro (¬ (_ = _)) _ ?_ ?_); (· first | assumption | (with_reducible assumption)); (conv => whnf))
    | (refine hX _ _ _ _ _ _ ?_; (conv => whnf); fail_if_success show False)
    | (rw [c_si]; (conv => whnf))
    | (refine ⟨_, rfl, ?_⟩; (conv => whnf))
    | (refine ⟨_, _, rfl, ?_⟩; (conv => whnf))
    | (refine ⟨_, _, _, rfl, ?_⟩; (conv => whnf))
    | (refine ⟨_, _, _, _, rfl, ?_⟩; (conv => whnf))
    | (refine ⟨a,rfl,hok,?_⟩; (conv => whnf))
    | fail)
  refine ⟨fun e => ?_, fun e x hx => ?_⟩
  · obtain ⟨h, hh, rfl⟩ := t_in_of (by omega) e
    have f : g_isH (cG P I L) (nI h) = true := e
    rw [q_gets, f, g_ck_t, nI_clamp (by omega)] at hQ
    (conv => whnf)
    rcases c_rc b 0 999 (A := 0) (B := Int32.ofInt 999) (by decide +kernel) (by decide +kernel) (by omega) (by omega) with ⟨n, -, hn6, rfl, e1⟩ | ⟨e1, h1⟩ | ⟨e1, h1, h2⟩
    · have d1 : ¬ nI n < 0 := fun q => absurd ((nI_nn (n := n) (by omega)).1) (fun z => z q)
      have d2 : ¬ Int32.ofInt 999 < nI n := fun q => by
        have : nI n ≤ nI 999 := (nI_leI (by omega) (by omega)).mpr hn6
        exact absurd this (Int32.not_le.mpr q)
      rw [e1, Bool.true_and] at hQ
      by_cases hd : t_in d (nI 0) (nI 1) = true
      · obtain ⟨m, hm1, rfl⟩ : ∃ m, m ≤ 1 ∧ d = nI m := by
          rcases c_rc d 0 1 (A := nI 0) (B := nI 1) rfl rfl (by omega) (by omega) with ⟨n, -, h, e, -⟩ | ⟨e, -⟩ | ⟨e, -, -⟩
          · exact ⟨n, h, e⟩
          · rw [hd] at e; cases e
          · rw [hd] at e; cases e
        rw [hd, g_ck_t] at hQ
        have h0 : ∀ x : Int32, nI n < x → ¬ x = 0 := fun x q e => by
          rw [e] at q
          exact absurd (nI_pos' (n := n) (by omega)) (Int32.not_le.mpr q)
        have loop : ¬ g_claims (cG P I L) (nI 999) ≤ nI n → ¬ nI m = nI 0 → ∀ k, k ≤ 998 → g_bnd (cG P I L) (nI n) (999 - k) k = g_bnd (cG P I L) (nI n) 999 0 → X 74 [some (.ref 0), some (.int (nI h)), some (.int (nI n)), some (.int (nI m)), some (.int (g_claim (cG P I L) h)), some (.int (g_claims (cG P I L) (nI 999))), some (.int (nI k))] [] (cW P Z I) 0 0 := by
          intro hc hm0
          rw [if_neg hc, if_neg hm0] at hQ
          refine t_for fun k h1 ih hB => ?_
          rw [show 999 - k = (999 - (k + 1)) + 1 by omega, g_bnd] at hB
          have ek : nI k + Int32.ofInt 1 = nI (k + 1) := by rw [xl_n.2.1, nI_add]
          refine hG _ _ _ _ _ _ ?_
          (conv => whnf)
          repeat' (first
            | ((with_reducible refine @And.intro (vp_in _ _) _ ?_ ?_); (· (first | with_reducible assumption | ((with_reducible refine t_vin ?_); decide) | ((with_reducible refine vp_in_nI ?_ ?_) <;> first | omega | decide) | (simp (disch := omega) only [xl_n, xl_m, nI_dec, nI_sb, nI_add, pk_mul]; (with_reducible refine vp_in_nI ?_ ?_) <;> first | omega | decide))); (conv => whnf))
            | (refine And.intro (by first | with_reducible assumption | exact (show cL _ _ = _ from rfl) | decide) ?_; (conv => whnf))
            | ((with_reducible refine @And.intro (_ = _) _ ?_ ?_); (· rfl); (conv => whnf))
            | ((with_reducible refine @And.intro (@LE.le Nat _ _ _) _ ?_ ?_); (· (first | exact Nat.zero_le _ | exact Nat.le_of_ble_eq_true rfl | omega)); (conv => whnf))
            | ((with_reducible refine @And.intro (@LT.lt Nat _ _ _) _ ?_ ?_); (· omega); (conv => whnf))
            | ((with_reducible refine @And.intro (∃ _, _ = _) _ ?_ ?_); (· exact ⟨_, rfl⟩); (conv => whnf))
            | ((with_reducible refine @And.intro (_ ∨ _) _ ?_ ?_); (· (first | exact Or.inl rfl | exact Or.inr rfl | exact t_b01 _ | assumption)); (conv => whnf))
            | ((with_reducible refine @And.intro (¬ (_ = _)) _ ?_ ?_); (· first | assumption | (with_reducible assumption)); (conv => whnf))
            | (refine hX _ _ _ _ _ _ ?_; (conv => whnf); fail_if_success show False)
            | (rw [c_si]; (conv => whnf))
            | (refine ⟨_, rfl, ?_⟩; (conv => whnf))
            | (refine ⟨_, _, rfl, ?_⟩; (conv => whnf))
            | (refine ⟨_, _, _, rfl, ?_⟩; (conv => whnf))
            | (refine ⟨_, _, _, _, rfl, ?_⟩; (conv => whnf))
            | (refine ⟨_,L,rfl,hg,hk0,?_⟩; (conv => whnf))
            | (refine And.intro (fun c => ?_) (fun c => ?_) <;> (first | (exact absurd c (by decide +kernel)) | (conv => whnf)))
            | fail)
          · have c0 : nI n < g_claims (cG P I L) (nI k + Int32.ofInt 1) := c
            rw [ek] at c0
            rw [if_neg (Int32.not_le.mpr c0)] at hB
            refine c_ask hQ hg c_sp.rf ?_
            rw [← hB, t_less_c]
          · have c0 : ¬ nI n < g_claims (cG P I L) (nI k + Int32.ofInt 1) := c
            rw [ek] at c0
            have c2 := Int32.not_lt.mp c0
            have hk : k ≠ 998 := fun e => by
              subst e
              exact hc c2
            rw [if_pos c2] at hB
            have := ih (k + 1) (by omega) (by omega) hB
            clear hX hG hQ ih
            simp (disch := omega) only [xl_n, xl_m, nI_dec, nI_sb, xl_0, xl_1, cW_i, Nat.add_zero, Nat.reduceAdd, Nat.reduceMul, t_bn0, t_bn1, Classical.not_not, t_lt, nI_add, nI_1, pk_mul, nI_clamp, c_si, nI_eq, nI_leI, nM_ne, nM_ne, xm_set, xm_lv0, xm_psh] at *
            exact this
        have e999 : Int32.ofInt 999 = nI 999 := by decide +kernel
        have hm2 : m = 0 ∨ m = 1 := by omega
        rcases hm2 with rfl | rfl
        · repeat' (first
            | ((with_reducible refine @And.intro (vp_in _ _) _ ?_ ?_); (· (first | with_reducible assumption | ((with_reducible refine t_vin ?_); decide) | ((with_reducible refine vp_in_nI ?_ ?_) <;> first | omega | decide) | (simp (disch := omega) only [xl_n, xl_m, nI_dec, nI_sb, nI_add, pk_mul]; (with_reducible refine vp_in_nI ?_ ?_) <;> first | omega | decide))); (conv => whnf))
            | (refine And.intro (by first | with_reducible assumption | exact (show cL _ _ = _ from rfl) | decide) ?_; (conv => whnf))
            | ((with_reducible refine @And.intro (_ = _) _ ?_ ?_); (· rfl); (conv => whnf))
            | ((with_reducible refine @And.intro (@LE.le Nat _ _ _) _ ?_ ?_); (· (first | exact Nat.zero_le _ | exact Nat.le_of_ble_eq_true rfl | omega)); (conv => whnf))
            | ((with_reducible refine @And.intro (@LT.lt Nat _ _ _) _ ?_ ?_); (· omega); (conv => whnf))
            | ((with_reducible refine @And.intro (∃ _, _ = _) _ ?_ ?_); (· exact ⟨_, rfl⟩); (conv => whnf))
            | ((with_reducible refine @And.intro (_ ∨ _) _ ?_ ?_); (· (first | exact Or.inl rfl | exact Or.inr rfl | exact t_b01 _ | assumption)); (conv => whnf))
            | ((with_reducible refine @And.intro (¬ (_ = _)) _ ?_ ?_); (· first | assumption | (with_reducible assumption)); (conv => whnf))
            | (refine hX _ _ _ _ _ _ ?_; (conv => whnf); fail_if_success show False)
            | (rw [c_si]; (conv => whnf))
            | (refine ⟨_, rfl, ?_⟩; (conv => whnf))
            | (refine ⟨_, _, rfl, ?_⟩; (conv => whnf))
            | (refine ⟨_, _, _, rfl, ?_⟩; (conv => whnf))
            | (refine ⟨_, _, _, _, rfl, ?_⟩; (conv => whnf))
            | (refine ⟨true,rfl,?_⟩; (conv => whnf))
            | (refine ⟨false,rfl,?_⟩; (conv => whnf))
            | (refine ⟨h,L,rfl,hg,hk0,hh,?_⟩; (conv => whnf))
            | (refine ⟨_,L,rfl,hg,hk0,?_⟩; (conv => whnf))
            | (refine And.intro (fun c => ?_) (fun c => ?_) <;> (first | (exact absurd c (by decide +kernel)) | (exact absurd c (by assumption)) | (exact False.elim (c (by assumption))) | (conv => whnf)))
            | fail)
          · have a1 := (by assumption : (fun x y : Int32 => x < y) (nI n) (g_claims (cG P I L) (Int32.ofInt 999)))
            have a2 : nI n < g_claims (cG P I L) (nI 999) := by rw [← e999]; exact a1
            rw [if_neg (Int32.not_le.mpr a2), if_pos rfl] at hQ
            refine ⟨h0 _ a1, ?_⟩
            (conv => whnf)
            refine c_ask hQ hg c_sp.rf ?_
            rw [e999]
            rfl
          · have a2 : ¬ nI n < g_claims (cG P I L) (nI 999) := by rw [← e999]; exact c
            rw [if_pos (Int32.not_lt.mp a2)] at hQ
            exact c_ask hQ hg c_sp.rf rfl
        · repeat' (first
            | ((with_reducible refine @And.intro (vp_in _ _) _ ?_ ?_); (· (first | with_reducible assumption | ((with_reducible refine t_vin ?_); decide) | ((with_reducible refine vp_in_nI ?_ ?_) <;> first | omega | decide) | (simp (disch := omega) only [xl_n, xl_m, nI_dec, nI_sb, nI_add, pk_mul]; (with_reducible refine vp_in_nI ?_ ?_) <;> first | omega | decide))); (conv => whnf))
            | (refine And.intro (by first | with_reducible assumption | exact (show cL _ _ = _ from rfl) | decide) ?_; (conv => whnf))
            | ((with_reducible refine @And.intro (_ = _) _ ?_ ?_); (· rfl); (conv => whnf))
            | ((with_reducible refine @And.intro (@LE.le Nat _ _ _) _ ?_ ?_); (· (first | exact Nat.zero_le _ | exact Nat.le_of_ble_eq_true rfl | omega)); (conv => whnf))
            | ((with_reducible refine @And.intro (@LT.lt Nat _ _ _) _ ?_ ?_); (· omega); (conv => whnf))
            | ((with_reducible refine @And.intro (∃ _, _ = _) _ ?_ ?_); (· exact ⟨_, rfl⟩); (conv => whnf))
            | ((with_reducible refine @And.intro (_ ∨ _) _ ?_ ?_); (· (first | exact Or.inl rfl | exact Or.inr rfl | exact t_b01 _ | assumption)); (conv => whnf))
            | ((with_reducible refine @And.intro (¬ (_ = _)) _ ?_ ?_); (· first | assumption | (with_reducible assumption)); (conv => whnf))
            | (refine hX _ _ _ _ _ _ ?_; (conv => whnf); fail_if_success show False)
            | (rw [c_si]; (conv => whnf))
            | (refine ⟨_, rfl, ?_⟩; (conv => whnf))
            | (refine ⟨_, _, rfl, ?_⟩; (conv => whnf))
            | (refine ⟨_, _, _, rfl, ?_⟩; (conv => whnf))
            | (refine ⟨_, _, _, _, rfl, ?_⟩; (conv => whnf))
            | (refine ⟨true,rfl,?_⟩; (conv => whnf))
            | (refine ⟨false,rfl,?_⟩; (conv => whnf))
            | (refine ⟨h,L,rfl,hg,hk0,hh,?_⟩; (conv => whnf))
            | (refine ⟨_,L,rfl,hg,hk0,?_⟩; (conv => whnf))
            | (refine And.intro (fun c => ?_) (fun c => ?_) <;> (first | (exact absurd c (by decide +kernel)) | (exact absurd c (by assumption)) | (exact False.elim (c (by assumption))) | (conv => whnf)))
            | fail)
          · have a1 := (by assumption : (fun x y : Int32 => x < y) (nI n) (g_claims (cG P I L) (Int32.ofInt 999)))
            have a2 : nI n < g_claims (cG P I L) (nI 999) := by rw [← e999]; exact a1
            have fin := loop (Int32.not_le.mpr a2) (by decide +kernel) 0 (by omega) rfl
            rw [e999]
            clear hX hG hQ loop
            simp (disch := omega) only [xl_n, xl_m, nI_dec, nI_sb, xl_0, xl_1, cW_i, Nat.add_zero, Nat.reduceAdd, Nat.reduceMul, t_bn0, t_bn1, Classical.not_not, t_lt, nI_add, nI_1, pk_mul, nI_clamp, c_si, nI_eq, nI_leI, nM_ne, nM_ne, xm_set, xm_lv0, xm_psh] at *
            exact fin
          · have a2 : ¬ nI n < g_claims (cG P I L) (nI 999) := by rw [← e999]; exact c
            rw [if_pos (Int32.not_lt.mp a2)] at hQ
            exact c_ask hQ hg c_sp.rf rfl
      · have hd0 : t_in d (nI 0) (nI 1) = false := by simpa using hd
        have n0 : ¬ d = 0 := fun q => by
          subst q
          exact absurd hd0 (by decide +kernel)
        have n1 : ¬ d = Int32.ofInt 1 := fun q => by
          subst q
          exact absurd hd0 (by decide +kernel)
        repeat' (first
          | ((with_reducible refine @And.intro (vp_in _ _) _ ?_ ?_); (· (first | with_reducible assumption | ((with_reducible refine t_vin ?_); decide) | ((with_reducible refine vp_in_nI ?_ ?_) <;> first | omega | decide) | (simp (disch := omega) only [xl_n, xl_m, nI_dec, nI_sb, nI_add, pk_mul]; (with_reducible refine vp_in_nI ?_ ?_) <;> first | omega | decide))); (conv => whnf))
          | (refine And.intro (by first | with_reducible assumption | exact (show cL _ _ = _ from rfl) | decide) ?_; (conv => whnf))
          | ((with_reducible refine @And.intro (_ = _) _ ?_ ?_); (· rfl); (conv => whnf))
          | ((with_reducible refine @And.intro (@LE.le Nat _ _ _) _ ?_ ?_); (· (first | exact Nat.zero_le _ | exact Nat.le_of_ble_eq_true rfl | omega)); (conv => whnf))
          | ((with_reducible refine @And.intro (@LT.lt Nat _ _ _) _ ?_ ?_); (· omega); (conv => whnf))
          | ((with_reducible refine @And.intro (∃ _, _ = _) _ ?_ ?_); (· exact ⟨_, rfl⟩); (conv => whnf))
          | ((with_reducible refine @And.intro (_ ∨ _) _ ?_ ?_); (· (first | exact Or.inl rfl | exact Or.inr rfl | exact t_b01 _ | assumption)); (conv => whnf))
          | ((with_reducible refine @And.intro (¬ (_ = _)) _ ?_ ?_); (· first | assumption | (with_reducible assumption)); (conv => whnf))
          | (refine hX _ _ _ _ _ _ ?_; (conv => whnf); fail_if_success show False)
          | (rw [c_si]; (conv => whnf))
          | (refine ⟨_, rfl, ?_⟩; (conv => whnf))
          | (refine ⟨_, _, rfl, ?_⟩; (conv => whnf))
          | (refine ⟨_, _, _, rfl, ?_⟩; (conv => whnf))
          | (refine ⟨_, _, _, _, rfl, ?_⟩; (conv => whnf))
          | (refine ⟨true,rfl,?_⟩; (conv => whnf))
          | (refine ⟨false,rfl,?_⟩; (conv => whnf))
          | (refine And.intro (fun c => ?_) (fun c => ?_) <;> (first | (exact absurd c (by decide +kernel)) | (exact absurd c (by assumption)) | (exact False.elim (c (by assumption))) | (conv => whnf)))
          | fail)
        intro x hx
        exact c_ref1 hQ hg hd0 hx n2_0
    all_goals
      repeat' (first
        | ((with_reducible refine @And.intro (vp_in _ _) _ ?_ ?_); (· (first | with_reducible assumption | ((with_reducible refine t_vin ?_); decide) | ((with_reducible refine vp_in_nI ?_ ?_) <;> first | omega | decide) | (simp (disch := omega) only [xl_n, xl_m, nI_dec, nI_sb, nI_add, pk_mul]; (with_reducible refine vp_in_nI ?_ ?_) <;> first | omega | decide))); (conv => whnf))
        | (refine And.intro (by first | with_reducible assumption | exact (show cL _ _ = _ from rfl) | decide) ?_; (conv => whnf))
        | ((with_reducible refine @And.intro (_ = _) _ ?_ ?_); (· rfl); (conv => whnf))
        | ((with_reducible refine @And.intro (@LE.le Nat _ _ _) _ ?_ ?_); (· (first | exact Nat.zero_le _ | exact Nat.le_of_ble_eq_true rfl | omega)); (conv => whnf))
        | ((with_reducible refine @And.intro (@LT.lt Nat _ _ _) _ ?_ ?_); (· omega); (conv => whnf))
        | ((with_reducible refine @And.intro (∃ _, _ = _) _ ?_ ?_); (· exact ⟨_, rfl⟩); (conv => whnf))
        | ((with_reducible refine @And.intro (_ ∨ _) _ ?_ ?_); (· (first | exact Or.inl rfl | exact Or.inr rfl | exact t_b01 _ | assumption)); (conv => whnf))
        | ((with_reducible refine @And.intro (¬ (_ = _)) _ ?_ ?_); (· first | assumption | (with_reducible assumption)); (conv => whnf))
        | (refine hX _ _ _ _ _ _ ?_; (conv => whnf); fail_if_success show False)
        | (rw [c_si]; (conv => whnf))
        | (refine ⟨_, rfl, ?_⟩; (conv => whnf))
        | (refine ⟨_, _, rfl, ?_⟩; (conv => whnf))
        | (refine ⟨_, _, _, rfl, ?_⟩; (conv => whnf))
        | (refine ⟨_, _, _, _, rfl, ?_⟩; (conv => whnf))
        | (refine ⟨true,rfl,?_⟩; (conv => whnf))
        | (refine ⟨false,rfl,?_⟩; (conv => whnf))
        | (refine And.intro (fun c => ?_) (fun c => ?_) <;> (first | (exact absurd c (by decide +kernel)) | (exact absurd c (by assumption)) | (exact False.elim (c (by assumption))) | (conv => whnf)))
        | fail)
      intro x hx
      exact c_ref1 hQ hg (by rw [e1, Bool.false_and]) hx n2_0
  · exact c_ref0 hQ hg e hx n1_0
theorem ct_X1_gets : xm_Ct cI yX1_gets (ws_ yX1_gets cX1_gets 7 (some .int)) 8 2 12 S_X1_gets := xm_enter (rt := 0) (init := false) (by decide +kernel) rfl (fun h => by cases h) (Or.inl ⟨rfl, rfl⟩) (oX1_gets) body_X1_gets
theorem cv_X1_gets {own : String} {cc : ByteArray} {fr pc idx : Nat} (hdg : decode cc pc = .ok (.invokevirtual idx, 3)) (hl : xm_ml own idx yX1_gets) (hfr : 8 < fr) : xm_CallOK cI own cc fr pc (pc + 3) 4 2 12 (xm_this 0 S_X1_gets) := xm_callV 0 cI_good (ct_X1_gets) hdg hl q1798 q1799 q116 q1800 rfl rfl (by decide +kernel) hfr (by decide)
