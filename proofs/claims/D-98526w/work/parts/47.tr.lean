/-! ===== the reference: who gets what ===== -/
set_option maxRecDepth 100000
def g_bnd (G : gG) (e : Int32) : Nat → Nat → Nat
  | 0, b => b
  | f + 1, b => if g_claims G (nI (b + 1)) ≤ e then g_bnd G e f (b + 1) else b
def g_div (x y : Int32) : Int32 := x / y
def q_gets (G : gG) (a e w : Int32) : gR := g_ck G (g_isH G a) (nI 1) 0 (g_ck G (t_in e (nI 0) (nI 999) && t_in w (nI 0) (nI 1)) (nI 2) 1 (g_says G (if g_claims G (nI 999) ≤ e then g_claim G a.toNatClampNeg else if w = nI 0 then g_div (e * g_claim G a.toNatClampNeg) (g_claims G (nI 999)) else t_less (nI (g_bnd G e 999 0)) (g_claim G a.toNatClampNeg))))
abbrev bX11_gets_0 : List xE := [(.aload_n 0, 1, 0, 0, 0), (.iconst 0, 2, 0, 0, 0), (.putfield 134, 5, 8, 0, 0), (.aload_n 0, 6, 0, 0, 0), (.aload_n 0, 7, 0, 0, 0), (.iload_n 1, 8, 0, 0, 0), (.invokevirtual 331, 11, 0, 0, 9), (.ifCond .ne 7, 14, 0, 18, 0), (.iconst 1, 15, 0, 0, 0), (.goto 4, 18, 0, 19, 0)]
abbrev bX11_gets_18 : List xE := [(.iconst 0, 19, 0, 0, 0)]
abbrev bX11_gets_19 : List xE := [(.iconst 1, 20, 0, 0, 0), (.iconst 0, 21, 0, 0, 0), (.invokevirtual 249, 24, 0, 1, 9), (.ifCond .ne 37, 27, 0, 61, 0), (.aload_n 0, 28, 0, 0, 0), (.iload_n 2, 29, 0, 0, 0), (.iconst 0, 30, 0, 0, 0), (.sipush 999, 33, 0, 0, 0), (.invokestatic 168, 36, 0, 2, 9), (.ifCond .eq 12, 39, 0, 48, 0), (.iload_n 3, 40, 0, 0, 0), (.iconst 0, 41, 0, 0, 0), (.iconst 1, 42, 0, 0, 0), (.invokestatic 168, 45, 0, 2, 9), (.ifCond .ne 7, 48, 0, 52, 0)]
abbrev bX11_gets_48 : List xE := [(.iconst 1, 49, 0, 0, 0), (.goto 4, 52, 0, 53, 0)]
abbrev bX11_gets_52 : List xE := [(.iconst 0, 53, 0, 0, 0)]
abbrev bX11_gets_53 : List xE := [(.iconst 2, 54, 0, 0, 0), (.iconst 1, 55, 0, 0, 0), (.invokevirtual 249, 58, 0, 1, 9), (.ifCond .eq 5, 61, 0, 63, 0)]
abbrev bX11_gets_61 : List xE := [(.iconst 0, 62, 0, 0, 0), (.ireturn, 63, 0, 0, 0)]
abbrev bX11_gets_63 : List xE := [(.aload_n 0, 64, 0, 0, 0), (.sipush 999, 67, 0, 0, 0), (.invokevirtual 436, 70, 0, 3, 9), (.istore 4, 72, 0, 0, 0), (.iconst 0, 73, 0, 0, 0), (.istore 5, 75, 0, 0, 0), (.iload_n 2, 76, 0, 0, 0), (.iload 4, 78, 0, 0, 0), (.if_icmp .lt 9, 81, 0, 87, 0), (.aload_n 0, 82, 0, 0, 0), (.iload_n 1, 83, 0, 0, 0), (.invokevirtual 433, 86, 0, 4, 9), (.ireturn, 87, 0, 0, 0)]
abbrev bX11_gets_87 : List xE := [(.iload_n 3, 88, 0, 0, 0), (.ifCond .ne 14, 91, 0, 102, 0), (.iload_n 2, 92, 0, 0, 0), (.aload_n 0, 93, 0, 0, 0), (.iload_n 1, 94, 0, 0, 0), (.invokevirtual 433, 97, 0, 4, 9), (.imul, 98, 0, 0, 0), (.iload 4, 100, 0, 0, 0), (.idiv, 101, 0, 0, 0), (.ireturn, 102, 0, 0, 0)]
abbrev bX11_gets_102 : List xE := [(.aload_n 0, 103, 0, 0, 0), (.iload 5, 105, 0, 0, 0), (.iconst 1, 106, 0, 0, 0), (.iadd, 107, 0, 0, 0), (.invokevirtual 436, 110, 0, 3, 9), (.iload_n 2, 111, 0, 0, 0), (.if_icmp .gt 9, 114, 0, 120, 0), (.iinc 5 1, 117, 0, 0, 0), (.goto (-15), 120, 0, 102, 0)]
abbrev bX11_gets_120 : List xE := [(.iload 5, 122, 0, 0, 0), (.aload_n 0, 123, 0, 0, 0), (.iload_n 1, 124, 0, 0, 0), (.invokevirtual 433, 127, 0, 4, 9), (.invokestatic 229, 130, 0, 5, 9), (.ireturn, 131, 0, 0, 0)]
abbrev kX11_gets : List (Nat × List xE) := [(0, bX11_gets_0), (18, bX11_gets_18), (19, bX11_gets_19), (48, bX11_gets_48), (52, bX11_gets_52), (53, bX11_gets_53), (61, bX11_gets_61), (63, bX11_gets_63), (87, bX11_gets_87), (102, bX11_gets_102), (120, bX11_gets_120)]
abbrev lX11_gets : List (Nat × Nat × Nat × xS) := [(2, 0, 0, xm_this 8 S_X11_isHand), (4, 0, 0, xm_this 8 S_X11_bad), (3, 0, 0, S_X11_in), (2, 0, 0, xm_this 8 S_X11_claimsTo), (2, 0, 0, xm_this 8 S_X11_claimOf), (2, 0, 0, S_X11_less)]
theorem oX11_gets_0 {Iv : xI} (hI : xm_good Iv)  : xm_okb Iv RX11 cX11_gets false 5 lX11_gets bX11_gets_0 0 := xo_0 dX11_gets_0 rfl trivial (xo_0 dX11_gets_1 rfl trivial (xo_0 dX11_gets_2 rfl (xm_fp_of (xm_fg_of (Or.inl q1955) (by decide) rfl (by decide) rfl rfl (Or.inl rfl) rfl) (by decide) rfl (Or.inl ⟨rfl, rfl⟩) rfl) (xo_0 dX11_gets_5 rfl trivial (xo_0 dX11_gets_6 rfl trivial (xo_0 dX11_gets_7 rfl trivial (xo_c rfl (cv_X11_isHand hI dX11_gets_8 (Or.inl q2304) (by decide)) (xo_0 dX11_gets_11 rfl rfl (xo_0 dX11_gets_14 rfl trivial (xo_0 dX11_gets_15 rfl rfl (xo_n))))))))))
theorem oX11_gets_18 {Iv : xI} (hI : xm_good Iv)  : xm_okb Iv RX11 cX11_gets false 5 lX11_gets bX11_gets_18 18 := xo_0 dX11_gets_18 rfl trivial (xo_n)
theorem oX11_gets_19 {Iv : xI} (hI : xm_good Iv)  : xm_okb Iv RX11 cX11_gets false 5 lX11_gets bX11_gets_19 19 := xo_0 dX11_gets_19 rfl trivial (xo_0 dX11_gets_20 rfl trivial (xo_c rfl (cv_X11_bad hI dX11_gets_21 (Or.inl q2137) (by decide)) (xo_0 dX11_gets_24 rfl rfl (xo_0 dX11_gets_27 rfl trivial (xo_0 dX11_gets_28 rfl trivial (xo_0 dX11_gets_29 rfl trivial (xo_0 dX11_gets_30 rfl (xo_sipush (by decide +kernel)) (xo_c rfl (cv_X11_in hI dX11_gets_33 (Or.inl q1942) (by decide)) (xo_0 dX11_gets_36 rfl rfl (xo_0 dX11_gets_39 rfl trivial (xo_0 dX11_gets_40 rfl trivial (xo_0 dX11_gets_41 rfl trivial (xo_c rfl (cv_X11_in hI dX11_gets_42 (Or.inl q1942) (by decide)) (xo_0 dX11_gets_45 rfl rfl (xo_n)))))))))))))))
theorem oX11_gets_48 {Iv : xI} (hI : xm_good Iv)  : xm_okb Iv RX11 cX11_gets false 5 lX11_gets bX11_gets_48 48 := xo_0 dX11_gets_48 rfl trivial (xo_0 dX11_gets_49 rfl rfl (xo_n))
theorem oX11_gets_52 {Iv : xI} (hI : xm_good Iv)  : xm_okb Iv RX11 cX11_gets false 5 lX11_gets bX11_gets_52 52 := xo_0 dX11_gets_52 rfl trivial (xo_n)
theorem oX11_gets_53 {Iv : xI} (hI : xm_good Iv)  : xm_okb Iv RX11 cX11_gets false 5 lX11_gets bX11_gets_53 53 := xo_0 dX11_gets_53 rfl trivial (xo_0 dX11_gets_54 rfl trivial (xo_c rfl (cv_X11_bad hI dX11_gets_55 (Or.inl q2137) (by decide)) (xo_0 dX11_gets_58 rfl rfl (xo_n))))
theorem oX11_gets_61 {Iv : xI} (hI : xm_good Iv)  : xm_okb Iv RX11 cX11_gets false 5 lX11_gets bX11_gets_61 61 := xo_0 dX11_gets_61 rfl trivial (xo_0 dX11_gets_62 rfl trivial (xo_n))
theorem oX11_gets_63 {Iv : xI} (hI : xm_good Iv)  : xm_okb Iv RX11 cX11_gets false 5 lX11_gets bX11_gets_63 63 := xo_0 dX11_gets_63 rfl trivial (xo_0 dX11_gets_64 rfl (xo_sipush (by decide +kernel)) (xo_c rfl (cv_X11_claimsTo hI dX11_gets_67 (Or.inl q2556) (by decide)) (xo_0 dX11_gets_70 rfl trivial (xo_0 dX11_gets_72 rfl trivial (xo_0 dX11_gets_73 rfl trivial (xo_0 dX11_gets_75 rfl trivial (xo_0 dX11_gets_76 rfl trivial (xo_0 dX11_gets_78 rfl rfl (xo_0 dX11_gets_81 rfl trivial (xo_0 dX11_gets_82 rfl trivial (xo_c rfl (cv_X11_claimOf hI dX11_gets_83 (Or.inl q2560) (by decide)) (xo_0 dX11_gets_86 rfl trivial (xo_n)))))))))))))
theorem oX11_gets_87 {Iv : xI} (hI : xm_good Iv)  : xm_okb Iv RX11 cX11_gets false 5 lX11_gets bX11_gets_87 87 := xo_0 dX11_gets_87 rfl trivial (xo_0 dX11_gets_88 rfl rfl (xo_0 dX11_gets_91 rfl trivial (xo_0 dX11_gets_92 rfl trivial (xo_0 dX11_gets_93 rfl trivial (xo_c rfl (cv_X11_claimOf hI dX11_gets_94 (Or.inl q2560) (by decide)) (xo_0 dX11_gets_97 rfl trivial (xo_0 dX11_gets_98 rfl trivial (xo_0 dX11_gets_100 rfl trivial (xo_0 dX11_gets_101 rfl trivial (xo_n))))))))))
theorem oX11_gets_102 {Iv : xI} (hI : xm_good Iv)  : xm_okb Iv RX11 cX11_gets false 5 lX11_gets bX11_gets_102 102 := xo_0 dX11_gets_102 rfl trivial (xo_0 dX11_gets_103 rfl trivial (xo_0 dX11_gets_105 rfl trivial (xo_0 dX11_gets_106 rfl trivial (xo_c rfl (cv_X11_claimsTo hI dX11_gets_107 (Or.inl q2556) (by decide)) (xo_0 dX11_gets_110 rfl trivial (xo_0 dX11_gets_111 rfl rfl (xo_0 dX11_gets_114 rfl trivial (xo_0 dX11_gets_117 rfl rfl (xo_n)))))))))
theorem oX11_gets_120 {Iv : xI} (hI : xm_good Iv)  : xm_okb Iv RX11 cX11_gets false 5 lX11_gets bX11_gets_120 120 := xo_0 dX11_gets_120 rfl trivial (xo_0 dX11_gets_122 rfl trivial (xo_0 dX11_gets_123 rfl trivial (xo_c rfl (cv_X11_claimOf hI dX11_gets_124 (Or.inl q2560) (by decide)) (xo_c rfl (cv_X11_less hI dX11_gets_127 (Or.inl q2229) (by decide)) (xo_0 dX11_gets_130 rfl trivial (xo_n))))))
theorem oX11_gets {Iv : xI} (hI : xm_good Iv)  : ∀ q ∈ kX11_gets, xm_okb Iv RX11 cX11_gets false 5 lX11_gets q.2 q.1 := by
  intro q hq
  simp only [List.mem_cons, List.not_mem_nil, or_false] at hq
  rcases hq with rfl | rfl | rfl | rfl | rfl | rfl | rfl | rfl | rfl | rfl | rfl
  · exact oX11_gets_0 hI  
  · exact oX11_gets_18 hI  
  · exact oX11_gets_19 hI  
  · exact oX11_gets_48 hI  
  · exact oX11_gets_52 hI  
  · exact oX11_gets_53 hI  
  · exact oX11_gets_61 hI  
  · exact oX11_gets_63 hI  
  · exact oX11_gets_87 hI  
  · exact oX11_gets_102 hI  
  · exact oX11_gets_120 hI  
def S_X11_gets : xS := tU fun as I Q => ∃ a b c, as = [.ref 0, .int a, .int b, .int c] ∧ t_good I ∧ t_P Q (q_gets (tG I) a b c)
theorem body_X11_gets : xm_Body 6 0 0 0 [] lX11_gets kX11_gets S_X11_gets := by
  intro X avs w Q QX hX0 hS
  have hG := xm_go [] hX0
  have hX := xm_go [102] hX0
  clear hX0
  obtain ⟨I, rfl, a, b, d, rfl, hg, hQ⟩ := hS
  refine ⟨rfl, ?_⟩
  repeat' (first
    | ((with_reducible refine @And.intro (vp_in _ _) _ ?_ ?_); (· (first | with_reducible assumption | ((with_reducible refine t_vin ?_); decide) | ((with_reducible refine vp_in_nI ?_ ?_) <;> first | omega | decide) | (simp (disch := omega) only [xl_n, xl_m, nI_dec, nI_sb, nI_add, pk_mul]; (with_reducible refine vp_in_nI ?_ ?_) <;> first | omega | decide))); (conv => whnf))
    | (refine And.intro (by first | with_reducible assumption | exact (show tL _ = _ from rfl) | decide) ?_; (conv => whnf))
    | ((with_reducible refine @And.intro (_ = _) _ ?_ ?_); (· rfl); (conv => whnf))
    | ((with_reducible refine @And.intro (@LE.le Nat _ _ _) _ ?_ ?_); (· (first | exact Nat.zero_le _ | exact Nat.le_of_ble_eq_true rfl | omega)); (conv => whnf))
    | ((with_reducible refine @And.intro (@LT.lt Nat _ _ _) _ ?_ ?_); (· omega); (conv => whnf))
    | ((with_reducible refine @And.intro (∃ _, _ = _) _ ?_ ?_); (· exact ⟨_, rfl⟩); (conv => whnf))
    | ((with_reducible refine @And.intro (_ ∨ _) _ ?_ ?_); (· (first | exact Or.inl rfl | exact Or.inr rfl | exact t_b01 _ | assumption)); (conv => whnf))
    | ((with_reducible refine @And.intro (¬ (_ = _)) _ ?_ ?_); (· first | assumption | (with_reducible assumption)); (conv => whnf))
    | (refine hX _ _ _ _ _ _ ?_; (conv => whnf); fail_if_success show False)
    | fail)
  rw [t_si]
  obtain ⟨J, hJ, hg1, hG1, h01⟩ := t_pub hg
  rw [← hJ]
  rw [← hG1] at hQ
  clear hJ hG1 hg I
  have hg := hg1
  have hok := hg.1
  have hl := hg.2.1
  have h8 := hok.2.2.2.1
  have h9 := hok.2.1
  (conv => whnf)
  rcases t_hc hg a with ⟨h, hh, rfl, e1, f1⟩ | ⟨e1, f1⟩
  · rw [q_gets, f1, g_ck_t, nI_clamp (by omega)] at hQ
    rcases t_rc b 0 999 (L := Int32.ofInt 0) (H := Int32.ofInt 999) (by decide +kernel) (by decide +kernel) (by omega) (by omega) with ⟨n, -, hn, rfl, e2, f2⟩ | ⟨e2, f2⟩
    · rcases t_rc d 0 1 (L := Int32.ofInt 0) (H := Int32.ofInt 1) (by decide +kernel) (by decide +kernel) (by omega) (by omega) with ⟨m, -, hm, rfl, e3, f3⟩ | ⟨e3, f3⟩
      · rw [f2, f3] at hQ
        rw [Bool.and_true, g_ck_t] at hQ
        have h0 : ∀ x : Int32, nI n < x → ¬ x = 0 := fun x q e => by
          rw [e] at q
          exact absurd (nI_pos' (n := n) (by omega)) (Int32.not_le.mpr q)
        have loop : ¬ g_claims (tG J) (nI 999) ≤ nI n → ¬ nI m = nI 0 → ∀ k, k ≤ 998 → g_bnd (tG J) (nI n) (999 - k) k = g_bnd (tG J) (nI n) 999 0 → X 102 [some (.ref 0), some (.int (nI h)), some (.int (nI n)), some (.int (nI m)), some (.int (g_claims (tG J) (nI 999))), some (.int (nI k))] [] (tW J) 0 0 := by
          intro hc hm0
          rw [if_neg hc, if_neg hm0] at hQ
          refine t_for fun k h1 ih hB => ?_
          rw [show 999 - k = (999 - (k + 1)) + 1 by omega, g_bnd] at hB
          refine hG _ _ _ _ _ _ ?_
          (conv => whnf)
          repeat' (first
            | ((with_reducible refine @And.intro (vp_in _ _) _ ?_ ?_); (· (first | with_reducible assumption | ((with_reducible refine t_vin ?_); decide) | ((with_reducible refine vp_in_nI ?_ ?_) <;> first | omega | decide) | (simp (disch := omega) only [xl_n, xl_m, nI_dec, nI_sb, nI_add, pk_mul]; (with_reducible refine vp_in_nI ?_ ?_) <;> first | omega | decide))); (conv => whnf))
            | (refine And.intro (by first | with_reducible assumption | exact (show tL _ = _ from rfl) | decide) ?_; (conv => whnf))
            | ((with_reducible refine @And.intro (_ = _) _ ?_ ?_); (· rfl); (conv => whnf))
            | ((with_reducible refine @And.intro (@LE.le Nat _ _ _) _ ?_ ?_); (· (first | exact Nat.zero_le _ | exact Nat.le_of_ble_eq_true rfl | omega)); (conv => whnf))
            | ((with_reducible refine @And.intro (@LT.lt Nat _ _ _) _ ?_ ?_); (· omega); (conv => whnf))
            | ((with_reducible refine @And.intro (∃ _, _ = _) _ ?_ ?_); (· exact ⟨_, rfl⟩); (conv => whnf))
            | ((with_reducible refine @And.intro (_ ∨ _) _ ?_ ?_); (· (first | exact Or.inl rfl | exact Or.inr rfl | exact t_b01 _ | assumption)); (conv => whnf))
            | ((with_reducible refine @And.intro (¬ (_ = _)) _ ?_ ?_); (· first | assumption | (with_reducible assumption)); (conv => whnf))
            | (refine hX _ _ _ _ _ _ ?_; (conv => whnf); fail_if_success show False)
            | (rw [t_si]; (conv => whnf))
            | (refine ⟨_, rfl, ?_⟩; (conv => whnf))
            | (refine ⟨_, _, rfl, ?_⟩; (conv => whnf))
            | (refine ⟨_, _, _, rfl, ?_⟩; (conv => whnf))
            | (refine ⟨_, _, _, _, rfl, ?_⟩; (conv => whnf))
            | (refine And.intro (fun c => ?_) (fun c => ?_) <;> (first | (exact absurd c (by decide +kernel)) | (conv => whnf)))
            | fail)
          · refine t_ask hQ hg t_sp.rf h01 ?_
            clear hX hG hQ ih
            simp (disch := omega) only [xl_n, xl_m, nI_dec, nI_sb, xl_0, xl_1, tW_i, t_bn0, t_bn1, Classical.not_not, t_lt, nI_add, nI_1, pk_mul, nI_clamp, t_si, nI_eq, nI_leI, nM_ne, nM_ne] at *
            rw [if_neg (by simpa using c)] at hB
            rw [← hB]
          · have c' : g_claims (tG J) (nI (k + 1)) ≤ nI n := by
              clear hX hG hQ ih
              simp (disch := omega) only [xl_n, xl_m, nI_dec, nI_sb, xl_0, xl_1, tW_i, t_bn0, t_bn1, Classical.not_not, t_lt, nI_add, nI_1, pk_mul, nI_clamp, t_si, nI_eq, nI_leI, nM_ne, nM_ne] at *
              simpa using c
            have hk : k ≠ 998 := fun e => by
              subst e
              exact hc c'
            rw [if_pos c'] at hB
            have := ih (k + 1) (by omega) (by omega) hB
            clear hX hG hQ ih
            simp (disch := omega) only [xl_n, xl_m, nI_dec, nI_sb, xl_0, xl_1, tW_i, t_bn0, t_bn1, Classical.not_not, t_lt, nI_add, nI_1, pk_mul, nI_clamp, t_si, nI_eq, nI_leI, nM_ne, nM_ne, xm_set, xm_lv0, xm_psh] at *
            exact this
        repeat' (first
          | ((with_reducible refine @And.intro (vp_in _ _) _ ?_ ?_); (· (first | with_reducible assumption | ((with_reducible refine t_vin ?_); decide) | ((with_reducible refine vp_in_nI ?_ ?_) <;> first | omega | decide) | (simp (disch := omega) only [xl_n, xl_m, nI_dec, nI_sb, nI_add, pk_mul]; (with_reducible refine vp_in_nI ?_ ?_) <;> first | omega | decide))); (conv => whnf))
          | (refine And.intro (by first | with_reducible assumption | exact (show tL _ = _ from rfl) | decide) ?_; (conv => whnf))
          | ((with_reducible refine @And.intro (_ = _) _ ?_ ?_); (· rfl); (conv => whnf))
          | ((with_reducible refine @And.intro (@LE.le Nat _ _ _) _ ?_ ?_); (· (first | exact Nat.zero_le _ | exact Nat.le_of_ble_eq_true rfl | omega)); (conv => whnf))
          | ((with_reducible refine @And.intro (@LT.lt Nat _ _ _) _ ?_ ?_); (· omega); (conv => whnf))
          | ((with_reducible refine @And.intro (∃ _, _ = _) _ ?_ ?_); (· exact ⟨_, rfl⟩); (conv => whnf))
          | ((with_reducible refine @And.intro (_ ∨ _) _ ?_ ?_); (· (first | exact Or.inl rfl | exact Or.inr rfl | exact t_b01 _ | assumption)); (conv => whnf))
          | ((with_reducible refine @And.intro (¬ (_ = _)) _ ?_ ?_); (· first | assumption | (with_reducible assumption)); (conv => whnf))
          | (refine hX _ _ _ _ _ _ ?_; (conv => whnf); fail_if_success show False)
          | (rw [t_si]; (conv => whnf))
          | (refine ⟨_, rfl, ?_⟩; (conv => whnf))
          | (refine ⟨_, _, rfl, ?_⟩; (conv => whnf))
          | (refine ⟨_, _, _, rfl, ?_⟩; (conv => whnf))
          | (refine ⟨_, _, _, _, rfl, ?_⟩; (conv => whnf))
          | (rw [e1]; (conv => whnf))
          | (rw [e2]; (conv => whnf))
          | (rw [e3]; (conv => whnf))
          | (refine And.intro (fun c => ?_) (fun c => ?_) <;> (first | (exact absurd c (by decide +kernel)) | (conv => whnf)))
          | fail)
        · have := loop
          clear hX hG hQ loop
          simp (disch := omega) only [xl_n, xl_m, nI_dec, nI_sb, xl_0, xl_1, tW_i, t_bn0, t_bn1, Classical.not_not, t_lt, nI_add, nI_1, pk_mul, nI_clamp, t_si, nI_eq, nI_leI, nM_ne, nM_ne, xm_set, xm_lv0, xm_psh] at *
          exact this (by assumption) (by assumption) 0 (Nat.zero_le _) rfl
        · refine And.intro (h0 _ (by assumption)) ?_
          (conv => whnf)
          refine t_ask hQ hg t_sp.rf h01 ?_
          clear hX hG hQ loop
          simp (disch := omega) only [xl_n, xl_m, nI_dec, nI_sb, xl_0, xl_1, tW_i, t_bn0, t_bn1, Classical.not_not, t_lt, nI_add, nI_1, pk_mul, nI_clamp, t_si, nI_eq, nI_leI, nM_ne, nM_ne] at *
          rw [if_neg (by assumption), if_pos (by first | assumption | (simp_all; done))]
          rfl
        · refine t_ask hQ hg t_sp.rf h01 ?_
          clear hX hG hQ loop
          simp (disch := omega) only [xl_n, xl_m, nI_dec, nI_sb, xl_0, xl_1, tW_i, t_bn0, t_bn1, Classical.not_not, t_lt, nI_add, nI_1, pk_mul, nI_clamp, t_si, nI_eq, nI_leI, nM_ne, nM_ne] at *
          rw [if_pos (by assumption)]
      · repeat' (first
          | ((with_reducible refine @And.intro (vp_in _ _) _ ?_ ?_); (· (first | with_reducible assumption | ((with_reducible refine t_vin ?_); decide) | ((with_reducible refine vp_in_nI ?_ ?_) <;> first | omega | decide) | (simp (disch := omega) only [xl_n, xl_m, nI_dec, nI_sb, nI_add, pk_mul]; (with_reducible refine vp_in_nI ?_ ?_) <;> first | omega | decide))); (conv => whnf))
          | (refine And.intro (by first | with_reducible assumption | exact (show tL _ = _ from rfl) | decide) ?_; (conv => whnf))
          | ((with_reducible refine @And.intro (_ = _) _ ?_ ?_); (· rfl); (conv => whnf))
          | ((with_reducible refine @And.intro (@LE.le Nat _ _ _) _ ?_ ?_); (· (first | exact Nat.zero_le _ | exact Nat.le_of_ble_eq_true rfl | omega)); (conv => whnf))
          | ((with_reducible refine @And.intro (@LT.lt Nat _ _ _) _ ?_ ?_); (· omega); (conv => whnf))
          | ((with_reducible refine @And.intro (∃ _, _ = _) _ ?_ ?_); (· exact ⟨_, rfl⟩); (conv => whnf))
          | ((with_reducible refine @And.intro (_ ∨ _) _ ?_ ?_); (· (first | exact Or.inl rfl | exact Or.inr rfl | exact t_b01 _ | assumption)); (conv => whnf))
          | ((with_reducible refine @And.intro (¬ (_ = _)) _ ?_ ?_); (· first | assumption | (with_reducible assumption)); (conv => whnf))
          | (refine hX _ _ _ _ _ _ ?_; (conv => whnf); fail_if_success show False)
          | (rw [t_si]; (conv => whnf))
          | (refine ⟨_, rfl, ?_⟩; (conv => whnf))
          | (refine ⟨_, _, rfl, ?_⟩; (conv => whnf))
          | (refine ⟨_, _, _, rfl, ?_⟩; (conv => whnf))
          | (refine ⟨_, _, _, _, rfl, ?_⟩; (conv => whnf))
          | (rw [e1]; (conv => whnf))
          | (rw [e2]; (conv => whnf))
          | (rw [e3]; (conv => whnf))
          | (refine And.intro (fun c => ?_) (fun c => ?_) <;> (first | (exact absurd c (by decide +kernel)) | (conv => whnf)))
          | fail)
        exact t_ref' hQ hg h01 (by simp [f2, f3]) (by decide) rfl rfl
    · repeat' (first
        | ((with_reducible refine @And.intro (vp_in _ _) _ ?_ ?_); (· (first | with_reducible assumption | ((with_reducible refine t_vin ?_); decide) | ((with_reducible refine vp_in_nI ?_ ?_) <;> first | omega | decide) | (simp (disch := omega) only [xl_n, xl_m, nI_dec, nI_sb, nI_add, pk_mul]; (with_reducible refine vp_in_nI ?_ ?_) <;> first | omega | decide))); (conv => whnf))
        | (refine And.intro (by first | with_reducible assumption | exact (show tL _ = _ from rfl) | decide) ?_; (conv => whnf))
        | ((with_reducible refine @And.intro (_ = _) _ ?_ ?_); (· rfl); (conv => whnf))
        | ((with_reducible refine @And.intro (@LE.le Nat _ _ _) _ ?_ ?_); (· (first | exact Nat.zero_le _ | exact Nat.le_of_ble_eq_true rfl | omega)); (conv => whnf))
        | ((with_reducible refine @And.intro (@LT.lt Nat _ _ _) _ ?_ ?_); (· omega); (conv => whnf))
        | ((with_reducible refine @And.intro (∃ _, _ = _) _ ?_ ?_); (· exact ⟨_, rfl⟩); (conv => whnf))
        | ((with_reducible refine @And.intro (_ ∨ _) _ ?_ ?_); (· (first | exact Or.inl rfl | exact Or.inr rfl | exact t_b01 _ | assumption)); (conv => whnf))
        | ((with_reducible refine @And.intro (¬ (_ = _)) _ ?_ ?_); (· first | assumption | (with_reducible assumption)); (conv => whnf))
        | (refine hX _ _ _ _ _ _ ?_; (conv => whnf); fail_if_success show False)
        | (rw [t_si]; (conv => whnf))
        | (refine ⟨_, rfl, ?_⟩; (conv => whnf))
        | (refine ⟨_, _, rfl, ?_⟩; (conv => whnf))
        | (refine ⟨_, _, _, rfl, ?_⟩; (conv => whnf))
        | (refine ⟨_, _, _, _, rfl, ?_⟩; (conv => whnf))
        | (rw [e1]; (conv => whnf))
        | (rw [e2]; (conv => whnf))
        | (refine And.intro (fun c => ?_) (fun c => ?_) <;> (first | (exact absurd c (by decide +kernel)) | (conv => whnf)))
        | fail)
      exact t_ref' hQ hg h01 (by simp [f2]) (by decide) rfl rfl
  · rw [q_gets] at hQ
    repeat' (first
      | ((with_reducible refine @And.intro (vp_in _ _) _ ?_ ?_); (· (first | with_reducible assumption | ((with_reducible refine t_vin ?_); decide) | ((with_reducible refine vp_in_nI ?_ ?_) <;> first | omega | decide) | (simp (disch := omega) only [xl_n, xl_m, nI_dec, nI_sb, nI_add, pk_mul]; (with_reducible refine vp_in_nI ?_ ?_) <;> first | omega | decide))); (conv => whnf))
      | (refine And.intro (by first | with_reducible assumption | exact (show tL _ = _ from rfl) | decide) ?_; (conv => whnf))
      | ((with_reducible refine @And.intro (_ = _) _ ?_ ?_); (· rfl); (conv => whnf))
      | ((with_reducible refine @And.intro (@LE.le Nat _ _ _) _ ?_ ?_); (· (first | exact Nat.zero_le _ | exact Nat.le_of_ble_eq_true rfl | omega)); (conv => whnf))
      | ((with_reducible refine @And.intro (@LT.lt Nat _ _ _) _ ?_ ?_); (· omega); (conv => whnf))
      | ((with_reducible refine @And.intro (∃ _, _ = _) _ ?_ ?_); (· exact ⟨_, rfl⟩); (conv => whnf))
      | ((with_reducible refine @And.intro (_ ∨ _) _ ?_ ?_); (· (first | exact Or.inl rfl | exact Or.inr rfl | exact t_b01 _ | assumption)); (conv => whnf))
      | ((with_reducible refine @And.intro (¬ (_ = _)) _ ?_ ?_); (· first | assumption | (with_reducible assumption)); (conv => whnf))
      | (refine hX _ _ _ _ _ _ ?_; (conv => whnf); fail_if_success show False)
      | (rw [t_si]; (conv => whnf))
      | (refine ⟨_, rfl, ?_⟩; (conv => whnf))
      | (refine ⟨_, _, rfl, ?_⟩; (conv => whnf))
      | (refine ⟨_, _, _, rfl, ?_⟩; (conv => whnf))
      | (refine ⟨_, _, _, _, rfl, ?_⟩; (conv => whnf))
      | (rw [e1]; (conv => whnf))
      | (refine And.intro (fun c => ?_) (fun c => ?_) <;> (first | (exact absurd c (by decide +kernel)) | (conv => whnf)))
      | fail)
    exact t_ref' hQ hg h01 (by simp [f1]) (by decide) rfl rfl
theorem ct_X11_gets {Iv : xI} (hI : xm_good Iv) : xm_Ct Iv yX11_gets (ws_ yX11_gets cX11_gets 6 (some .int)) 5 0 0 S_X11_gets := xm_enter (rt := 0) (init := false) (by decide +kernel) rfl (fun h => by cases h) (Or.inl ⟨rfl, rfl⟩) (oX11_gets hI) body_X11_gets
theorem cv_X11_gets {Iv : xI} {own : String} {cc : ByteArray} {fr pc idx : Nat} (hI : xm_good Iv) (hdg : decode cc pc = .ok (.invokevirtual idx, 3)) (hl : xm_ml own idx yX11_gets) (hfr : 5 < fr) : xm_CallOK Iv own cc fr pc (pc + 3) 4 0 0 (xm_this 8 S_X11_gets) := xm_callV 8 hI (ct_X11_gets hI) hdg hl q2553 q2554 q145 q2555 rfl rfl (by decide +kernel) hfr (by decide)
