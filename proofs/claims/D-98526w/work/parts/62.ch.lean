/-! ===== the reference: both, cost, dearest, last ===== -/
set_option maxRecDepth 100000
def g_bothL (G : gG) (a b : Nat) : List (List Int32) := g_castsP G (gnow G) (g_alive (gGK G) (gnow G)) (g_act G a ++ g_act G b)
def q_both (G : gG) (a b : Int32) : gR := g_ck G (g_isA G a && g_isA G b) (nI 1) 0 (g_ck G (!decide (a = b)) (nI 2) 1 (g_says G (if g_bits G a.toNatClampNeg &&& g_bits G b.toNatClampNeg = nI 0 then t_b (g_is (g_bothL G a.toNatClampNeg b.toNatClampNeg)) else nI 0)))
abbrev bX11_both_0 : List xE := [(.aload_n 0, 1, 0, 0, 0), (.iconst 0, 2, 0, 0, 0), (.putfield 134, 5, 8, 0, 0), (.aload_n 0, 6, 0, 0, 0), (.aload_n 0, 7, 0, 0, 0), (.iload_n 1, 8, 0, 0, 0), (.invokevirtual 344, 11, 0, 0, 9), (.ifCond .eq 11, 14, 0, 22, 0), (.aload_n 0, 15, 0, 0, 0), (.iload_n 2, 16, 0, 0, 0), (.invokevirtual 344, 19, 0, 0, 9), (.ifCond .ne 7, 22, 0, 26, 0)]
abbrev bX11_both_22 : List xE := [(.iconst 1, 23, 0, 0, 0), (.goto 4, 26, 0, 27, 0)]
abbrev bX11_both_26 : List xE := [(.iconst 0, 27, 0, 0, 0)]
abbrev bX11_both_27 : List xE := [(.iconst 1, 28, 0, 0, 0), (.iconst 0, 29, 0, 0, 0), (.invokevirtual 249, 32, 0, 1, 9), (.ifCond .ne 22, 35, 0, 54, 0), (.aload_n 0, 36, 0, 0, 0), (.iload_n 1, 37, 0, 0, 0), (.iload_n 2, 38, 0, 0, 0), (.if_icmp .ne 7, 41, 0, 45, 0), (.iconst 1, 42, 0, 0, 0), (.goto 4, 45, 0, 46, 0)]
abbrev bX11_both_45 : List xE := [(.iconst 0, 46, 0, 0, 0)]
abbrev bX11_both_46 : List xE := [(.iconst 2, 47, 0, 0, 0), (.iconst 1, 48, 0, 0, 0), (.invokevirtual 249, 51, 0, 1, 9), (.ifCond .eq 5, 54, 0, 56, 0)]
abbrev bX11_both_54 : List xE := [(.iconst 0, 55, 0, 0, 0), (.ireturn, 56, 0, 0, 0)]
abbrev bX11_both_56 : List xE := [(.aload_n 0, 57, 0, 0, 0), (.iload_n 1, 58, 0, 0, 0), (.invokevirtual 347, 61, 0, 2, 9), (.aload_n 0, 62, 0, 0, 0), (.iload_n 2, 63, 0, 0, 0), (.invokevirtual 347, 66, 0, 2, 9), (.iand, 67, 0, 0, 0), (.ifCond .eq 5, 70, 0, 72, 0), (.iconst 0, 71, 0, 0, 0), (.ireturn, 72, 0, 0, 0)]
abbrev bX11_both_72 : List xE := [(.aload_n 0, 73, 0, 0, 0), (.iload_n 1, 74, 0, 0, 0), (.iconst 0, 75, 0, 0, 0), (.invokevirtual 408, 78, 0, 3, 9), (.aload_n 0, 79, 0, 0, 0), (.iload_n 2, 80, 0, 0, 0), (.aload_n 0, 81, 0, 0, 0), (.getfield 61, 84, 8, 24, 1), (.iload_n 1, 85, 0, 0, 0), (.aaload, 86, 0, 0, 0), (.iconst 1, 87, 0, 0, 0), (.iaload, 88, 0, 0, 0), (.invokevirtual 408, 91, 0, 3, 9), (.aload_n 0, 92, 0, 0, 0), (.aload_n 0, 93, 0, 0, 0), (.getfield 91, 96, 8, 36, 1), (.aload_n 0, 97, 0, 0, 0), (.aload_n 0, 98, 0, 0, 0), (.getfield 91, 101, 8, 36, 1), (.invokevirtual 324, 104, 0, 4, 9), (.iconst 1, 105, 0, 0, 0), (.invokevirtual 411, 108, 0, 5, 9), (.ifCond .le 7, 111, 0, 115, 0), (.iconst 1, 112, 0, 0, 0), (.goto 4, 115, 0, 116, 0)]
abbrev bX11_both_115 : List xE := [(.iconst 0, 116, 0, 0, 0)]
abbrev bX11_both_116 : List xE := [(.ireturn, 117, 0, 0, 0)]
abbrev kX11_both : List (Nat × List xE) := [(0, bX11_both_0), (22, bX11_both_22), (26, bX11_both_26), (27, bX11_both_27), (45, bX11_both_45), (46, bX11_both_46), (54, bX11_both_54), (56, bX11_both_56), (72, bX11_both_72), (115, bX11_both_115), (116, bX11_both_116)]
abbrev lX11_both : List (Nat × Nat × Nat × xS) := [(2, 0, 0, xm_this 8 S_X11_isAct), (4, 0, 0, xm_this 8 S_X11_bad), (2, 0, 0, xm_this 8 S_X11_bitsOf), (3, 0, 0, xm_this 8 S_X11_sets), (2, 0, 0, xm_this 8 S_X11_aliveOf), (4, 0, 0, xm_this 8 S_X11_castsNow)]
theorem oX11_both_0 {Iv : xI} (hI : xm_good Iv)  : xm_okb Iv RX11 cX11_both false 24 lX11_both bX11_both_0 0 := xo_0 dX11_both_0 rfl trivial (xo_0 dX11_both_1 rfl trivial (xo_0 dX11_both_2 rfl (xm_fp_of (xm_fg_of (Or.inl q1955) (by decide) rfl (by decide) rfl rfl (Or.inl rfl) rfl) (by decide) rfl (Or.inl ⟨rfl, rfl⟩) rfl) (xo_0 dX11_both_5 rfl trivial (xo_0 dX11_both_6 rfl trivial (xo_0 dX11_both_7 rfl trivial (xo_c rfl (cv_X11_isAct hI dX11_both_8 (Or.inl q2331) (by decide)) (xo_0 dX11_both_11 rfl rfl (xo_0 dX11_both_14 rfl trivial (xo_0 dX11_both_15 rfl trivial (xo_c rfl (cv_X11_isAct hI dX11_both_16 (Or.inl q2331) (by decide)) (xo_0 dX11_both_19 rfl rfl (xo_n))))))))))))
theorem oX11_both_22 {Iv : xI} (hI : xm_good Iv)  : xm_okb Iv RX11 cX11_both false 24 lX11_both bX11_both_22 22 := xo_0 dX11_both_22 rfl trivial (xo_0 dX11_both_23 rfl rfl (xo_n))
theorem oX11_both_26 {Iv : xI} (hI : xm_good Iv)  : xm_okb Iv RX11 cX11_both false 24 lX11_both bX11_both_26 26 := xo_0 dX11_both_26 rfl trivial (xo_n)
theorem oX11_both_27 {Iv : xI} (hI : xm_good Iv)  : xm_okb Iv RX11 cX11_both false 24 lX11_both bX11_both_27 27 := xo_0 dX11_both_27 rfl trivial (xo_0 dX11_both_28 rfl trivial (xo_c rfl (cv_X11_bad hI dX11_both_29 (Or.inl q2137) (by decide)) (xo_0 dX11_both_32 rfl rfl (xo_0 dX11_both_35 rfl trivial (xo_0 dX11_both_36 rfl trivial (xo_0 dX11_both_37 rfl trivial (xo_0 dX11_both_38 rfl rfl (xo_0 dX11_both_41 rfl trivial (xo_0 dX11_both_42 rfl rfl (xo_n))))))))))
theorem oX11_both_45 {Iv : xI} (hI : xm_good Iv)  : xm_okb Iv RX11 cX11_both false 24 lX11_both bX11_both_45 45 := xo_0 dX11_both_45 rfl trivial (xo_n)
theorem oX11_both_46 {Iv : xI} (hI : xm_good Iv)  : xm_okb Iv RX11 cX11_both false 24 lX11_both bX11_both_46 46 := xo_0 dX11_both_46 rfl trivial (xo_0 dX11_both_47 rfl trivial (xo_c rfl (cv_X11_bad hI dX11_both_48 (Or.inl q2137) (by decide)) (xo_0 dX11_both_51 rfl rfl (xo_n))))
theorem oX11_both_54 {Iv : xI} (hI : xm_good Iv)  : xm_okb Iv RX11 cX11_both false 24 lX11_both bX11_both_54 54 := xo_0 dX11_both_54 rfl trivial (xo_0 dX11_both_55 rfl trivial (xo_n))
theorem oX11_both_56 {Iv : xI} (hI : xm_good Iv)  : xm_okb Iv RX11 cX11_both false 24 lX11_both bX11_both_56 56 := xo_0 dX11_both_56 rfl trivial (xo_0 dX11_both_57 rfl trivial (xo_c rfl (cv_X11_bitsOf hI dX11_both_58 (Or.inl q2335) (by decide)) (xo_0 dX11_both_61 rfl trivial (xo_0 dX11_both_62 rfl trivial (xo_c rfl (cv_X11_bitsOf hI dX11_both_63 (Or.inl q2335) (by decide)) (xo_0 dX11_both_66 rfl trivial (xo_0 dX11_both_67 rfl rfl (xo_0 dX11_both_70 rfl trivial (xo_0 dX11_both_71 rfl trivial (xo_n))))))))))
theorem oX11_both_72 {Iv : xI} (hI : xm_good Iv)  : xm_okb Iv RX11 cX11_both false 24 lX11_both bX11_both_72 72 := xo_0 dX11_both_72 rfl trivial (xo_0 dX11_both_73 rfl trivial (xo_0 dX11_both_74 rfl trivial (xo_c rfl (cv_X11_sets hI dX11_both_75 (Or.inl q2423) (by decide)) (xo_0 dX11_both_78 rfl trivial (xo_0 dX11_both_79 rfl trivial (xo_0 dX11_both_80 rfl trivial (xo_1 dX11_both_81 rfl (xm_fg_of (Or.inl q1979) (by decide) rfl (by decide) rfl rfl (Or.inl rfl) rfl) (xo_0 dX11_both_84 rfl trivial (xo_0 dX11_both_85 rfl trivial (xo_0 dX11_both_86 rfl trivial (xo_0 dX11_both_87 rfl trivial (xo_c rfl (cv_X11_sets hI dX11_both_88 (Or.inl q2423) (by decide)) (xo_0 dX11_both_91 rfl trivial (xo_0 dX11_both_92 rfl trivial (xo_1 dX11_both_93 rfl (xm_fg_of (Or.inl q1991) (by decide) rfl (by decide) rfl rfl (Or.inl rfl) rfl) (xo_0 dX11_both_96 rfl trivial (xo_0 dX11_both_97 rfl trivial (xo_1 dX11_both_98 rfl (xm_fg_of (Or.inl q1991) (by decide) rfl (by decide) rfl rfl (Or.inl rfl) rfl) (xo_c rfl (cv_X11_aliveOf hI dX11_both_101 (Or.inl q2288) (by decide)) (xo_0 dX11_both_104 rfl trivial (xo_c rfl (cv_X11_castsNow hI dX11_both_105 (Or.inl q2427) (by decide)) (xo_0 dX11_both_108 rfl rfl (xo_0 dX11_both_111 rfl trivial (xo_0 dX11_both_112 rfl rfl (xo_n)))))))))))))))))))))))))
theorem oX11_both_115 {Iv : xI} (hI : xm_good Iv)  : xm_okb Iv RX11 cX11_both false 24 lX11_both bX11_both_115 115 := xo_0 dX11_both_115 rfl trivial (xo_n)
theorem oX11_both_116 {Iv : xI} (hI : xm_good Iv)  : xm_okb Iv RX11 cX11_both false 24 lX11_both bX11_both_116 116 := xo_0 dX11_both_116 rfl trivial (xo_n)
theorem oX11_both {Iv : xI} (hI : xm_good Iv)  : ∀ q ∈ kX11_both, xm_okb Iv RX11 cX11_both false 24 lX11_both q.2 q.1 := by
  intro q hq
  simp only [List.mem_cons, List.not_mem_nil, or_false] at hq
  rcases hq with rfl | rfl | rfl | rfl | rfl | rfl | rfl | rfl | rfl | rfl | rfl
  · exact oX11_both_0 hI  
  · exact oX11_both_22 hI  
  · exact oX11_both_26 hI  
  · exact oX11_both_27 hI  
  · exact oX11_both_45 hI  
  · exact oX11_both_46 hI  
  · exact oX11_both_54 hI  
  · exact oX11_both_56 hI  
  · exact oX11_both_72 hI  
  · exact oX11_both_115 hI  
  · exact oX11_both_116 hI  
def S_X11_both : xS := tU fun as I Q => ∃ a b, as = [.ref 0, .int a, .int b] ∧ t_good I ∧ g_need (tG I) ∧ t_P Q (q_both (tG I) a b)
theorem body_X11_both : xm_Body 3 1 0 0 [] lX11_both kX11_both S_X11_both := by
  intro X avs w Q QX hX0 hS
  have hG := xm_go [] hX0
  have hX := xm_go [] hX0
  clear hX0
  obtain ⟨I, rfl, a, b, rfl, hg, hnd, hQ⟩ := hS
  refine ⟨rfl, ?_⟩
  repeat' (first
    | ((with_reducible refine @And.intro (vp_in _ _) _ ?_ ?_); (· (first | with_reducible assumption | ((with_reducible refine t_vin ?_); decide) | ((with_reducible refine vp_in_nI ?_ ?_) <;> first | omega | decide) | (simp (disch := omega) only [xl_n, xl_m, nI_dec, nI_sb, nI_add, pk_mul]; (with_reducible refine vp_in_nI ?_ ?_) <;> first | omega | decide))); (conv => whnf))
    | (refine And.intro (by first | with_reducible assumption | exact (show tL _ = _ from rfl) | decide) ?_; (conv => whnf))
    | ((with_reducible refine @And.intro (_ = _) _ ?_ ?_); (· rfl); (conv => whnf))
    | ((with_reducible refine @And.intro (@LE.le Nat _ _ _) _ ?_ ?_); (· (first | exact Nat.zero_le _ | exact Nat.le_of_ble_eq_true rfl | omega)); (conv => whnf))
    | ((with_reducible refine @And.intro (@LT.lt Nat _ _ _) _ ?_ ?_); (· omega); (conv => whnf))
    | ((with_reducible refine @And.intro (∃ _, _ = _) _ ?_ ?_); (· exact ⟨_, rfl⟩); (conv => whnf))
    | ((with_reducible refine @And.intro (_ ∨ _) _ ?_ ?_); (· (first | exact Or.inl rfl | exact Or.inr rfl | exact t_b01 _ | assumption)); (conv => whnf))
    | ((with_reducible refine @And.intro (¬ (_ = _)) _ ?_ ?_); (· first | assumption | (with_reducible assumption)); (conv => whnf))
    | (refine hX _ _ _ _ _ _ ?_; (conv => whnf); fail_if_success show False)
    | fail)
  rw [t_si]
  obtain ⟨J, hJ, hg1, hG1, h01⟩ := t_pub hg
  rw [← hJ]
  rw [← hG1] at hQ hnd
  clear hJ hG1 hg I
  have hg := hg1
  have hok := hg.1
  have hl := hg.2.1
  have h8 := hok.2.2.2.1
  have h9 := hok.2.1
  (conv => whnf)
  have h6a := hok.2.2.2.2.2
  rcases t_ac hg a with ⟨a, ha, rfl, e1, f1⟩ | ⟨e1, f1⟩
  · rcases t_ac hg b with ⟨b, hb, rfl, e2, f2⟩ | ⟨e2, f2⟩
    · rw [q_both, f1, f2, Bool.and_true, g_ck_t, nI_clamp (by omega), nI_clamp (by omega)] at hQ
      obtain ⟨hP, h6⟩ := t_act_ok hg ha
      obtain ⟨hP2, h62⟩ := t_act_ok hg hb
      obtain ⟨hm, hm6, -⟩ := hg.2.2.2.2.2.2.1 a ha
      have hlen : (g_act (tG J) a).length = t_am J a := g_actN_n
      by_cases eab : a = b
      · subst eab
        rw [show (!decide (nI a = nI a)) = false by simp] at hQ
        repeat' (first
          | ((with_reducible refine @And.intro (vp_in _ _) _ ?_ ?_); (· (first | with_reducible assumption | ((with_reducible refine t_vin ?_); decide) | ((with_reducible refine vp_in_nI ?_ ?_) <;> first | omega | decide) | (simp (disch := omega) only [xl_n, xl_m, nI_dec, nI_sb, nI_add, pk_mul]; (with_reducible refine vp_in_nI ?_ ?_) <;> first | omega | decide))); (conv => whnf))
          | (refine And.intro (by first | with_reducible assumption | exact (show tL _ = _ from rfl) | decide) ?_; (conv => whnf))
          | ((with_reducible refine @And.intro (_ = _) _ ?_ ?_); (· rfl); (conv => whnf))
          | ((with_reducible refine @And.intro (@LE.le Nat _ _ _) _ ?_ ?_); (· (first | exact Nat.zero_le _ | exact Nat.le_of_ble_eq_true rfl | omega)); (conv => whnf))
          | ((with_reducible refine @And.intro (@LT.lt Nat _ _ _) _ ?_ ?_); (· omega); (conv => whnf))
          | ((with_reducible refine @And.intro (∃ _, _ = _) _ ?_ ?_); (· exact ⟨_, rfl⟩); (conv => whnf))
          | ((with_reducible refine @And.intro (_ ∨ _) _ ?_ ?_); (· (first | exact Or.inl rfl | exact Or.inr rfl | exact t_b01 _ | assumption)); (conv => whnf))
          | ((with_reducible refine @And.intro (¬ (_ = _)) _ ?_ ?_); (· first | assumption | (with_reducible assumption)); (conv => whnf))
          | (refine hX _ _ _ _ _ _ ?_; (conv => whnf); fail_if_success show False)
          | (rw [t_si]; (conv => whnf))
          | (refine ⟨_, rfl, ?_⟩; (conv => whnf))
          | (refine ⟨_, _, rfl, ?_⟩; (conv => whnf))
          | (refine ⟨_, _, _, rfl, ?_⟩; (conv => whnf))
          | (refine ⟨_, _, _, _, rfl, ?_⟩; (conv => whnf))
          | (rw [e1]; (conv => whnf))
          | (rw [e2]; (conv => whnf))
          | (refine And.intro (fun c => ?_) (fun c => ?_) <;> (first | (exact absurd c (by decide +kernel)) | (conv => whnf)))
          | fail)
        · exact absurd rfl (show ¬ nI a = nI a by assumption)
        · exact absurd rfl (show ¬ nI a = nI a by assumption)
        · exact t_ref' hQ hg h01 rfl (by decide) rfl rfl
      · have nab : ¬ nI a = nI b := by rw [nI_eq (by omega) (by omega)]; exact eab
        rw [show (!decide (nI a = nI b)) = true by simp [nab], g_ck_t] at hQ
        repeat' (first
          | ((with_reducible refine @And.intro (vp_in _ _) _ ?_ ?_); (· (first | with_reducible assumption | ((with_reducible refine t_vin ?_); decide) | ((with_reducible refine vp_in_nI ?_ ?_) <;> first | omega | decide) | (simp (disch := omega) only [xl_n, xl_m, nI_dec, nI_sb, nI_add, pk_mul]; (with_reducible refine vp_in_nI ?_ ?_) <;> first | omega | decide))); (conv => whnf))
          | (refine And.intro (by first | with_reducible assumption | exact (show tL _ = _ from rfl) | decide) ?_; (conv => whnf))
          | ((with_reducible refine @And.intro (_ = _) _ ?_ ?_); (· rfl); (conv => whnf))
          | ((with_reducible refine @And.intro (@LE.le Nat _ _ _) _ ?_ ?_); (· (first | exact Nat.zero_le _ | exact Nat.le_of_ble_eq_true rfl | omega)); (conv => whnf))
          | ((with_reducible refine @And.intro (@LT.lt Nat _ _ _) _ ?_ ?_); (· omega); (conv => whnf))
          | ((with_reducible refine @And.intro (∃ _, _ = _) _ ?_ ?_); (· exact ⟨_, rfl⟩); (conv => whnf))
          | ((with_reducible refine @And.intro (_ ∨ _) _ ?_ ?_); (· (first | exact Or.inl rfl | exact Or.inr rfl | exact t_b01 _ | assumption)); (conv => whnf))
          | ((with_reducible refine @And.intro (¬ (_ = _)) _ ?_ ?_); (· first | assumption | (with_reducible assumption)); (conv => whnf))
          | (refine hX _ _ _ _ _ _ ?_; (conv => whnf); fail_if_success show False)
          | (rw [t_si]; (conv => whnf))
          | (refine ⟨_, rfl, ?_⟩; (conv => whnf))
          | (refine ⟨_, _, rfl, ?_⟩; (conv => whnf))
          | (refine ⟨_, _, _, rfl, ?_⟩; (conv => whnf))
          | (refine ⟨_, _, _, _, rfl, ?_⟩; (conv => whnf))
          | (rw [e1]; (conv => whnf))
          | (rw [e2]; (conv => whnf))
          | (refine And.intro (fun c => ?_) (fun c => ?_) <;> (first | (exact absurd c (by decide +kernel)) | (conv => whnf)))
          | fail)
        · have c' : g_bits (tG J) a &&& g_bits (tG J) b = 0 := by assumption
          rw [← nI_0] at c'
          rw [if_pos c'] at hQ
          refine ⟨a, [], rfl, hg, ha, Nat.zero_le _, t_cq_0, fun L hL hcp => ?_⟩
          rw [List.nil_append] at hcp
          have hgL := hL.sp.good hg
          have eG := hL.sp.G hg
          have eta : t_a L = t_a J := by unfold t_a; rw [hL.1 12 (by decide) (by decide) (by decide)]
          (conv => whnf)
          repeat' (first
            | ((with_reducible refine @And.intro (vp_in _ _) _ ?_ ?_); (· (first | with_reducible assumption | ((with_reducible refine t_vin ?_); decide) | ((with_reducible refine vp_in_nI ?_ ?_) <;> first | omega | decide) | (simp (disch := omega) only [xl_n, xl_m, nI_dec, nI_sb, nI_add, pk_mul]; (with_reducible refine vp_in_nI ?_ ?_) <;> first | omega | decide))); (conv => whnf))
            | (refine And.intro (by first | with_reducible assumption | exact (show tL _ = _ from rfl) | decide) ?_; (conv => whnf))
            | ((with_reducible refine @And.intro (_ = _) _ ?_ ?_); (· rfl); (conv => whnf))
            | ((with_reducible refine @And.intro (@LE.le Nat _ _ _) _ ?_ ?_); (· (first | exact Nat.zero_le _ | exact Nat.le_of_ble_eq_true rfl | omega)); (conv => whnf))
            | ((with_reducible refine @And.intro (@LT.lt Nat _ _ _) _ ?_ ?_); (· omega); (conv => whnf))
            | ((with_reducible refine @And.intro (∃ _, _ = _) _ ?_ ?_); (· exact ⟨_, rfl⟩); (conv => whnf))
            | ((with_reducible refine @And.intro (_ ∨ _) _ ?_ ?_); (· (first | exact Or.inl rfl | exact Or.inr rfl | exact t_b01 _ | assumption)); (conv => whnf))
            | ((with_reducible refine @And.intro (¬ (_ = _)) _ ?_ ?_); (· first | assumption | (with_reducible assumption)); (conv => whnf))
            | (refine hX _ _ _ _ _ _ ?_; (conv => whnf); fail_if_success show False)
            | (rw [t_si]; (conv => whnf))
            | (refine ⟨_, rfl, ?_⟩; (conv => whnf))
            | (refine ⟨_, _, rfl, ?_⟩; (conv => whnf))
            | (refine ⟨_, _, _, rfl, ?_⟩; (conv => whnf))
            | (refine ⟨_, _, _, _, rfl, ?_⟩; (conv => whnf))
            | (rw [t_l150 (by first | with_reducible assumption | omega | exact vp_lt (by assumption) | (rw [nI_clamp (by omega)]; omega))]; (conv => whnf))
            | (refine And.intro (fun c => ?_) (fun c => ?_) <;> (first | (exact absurd c (by decide +kernel)) | (conv => whnf)))
            | fail)
          refine ⟨b, g_act (tG J) a, ?_, hgL, by rw [eta]; exact hb, h6, hcp.2, fun M hM hcp2 => ?_⟩
          · show [_, _, Value.int (L (150 + (nI a).toNatClampNeg) (Int32.ofInt 1).toNatClampNeg)] = _
            rw [nI_clamp (by omega), hL.1 (150 + a) (by omega) (by omega) (by omega), show (Int32.ofInt 1).toNatClampNeg = 1 by decide +kernel, hm, hlen]
          · rw [eG] at hcp2
            have hML := hL.sp.tr hM.sp
            have hgM := hML.good hg
            have hokM := hgM.1
            have eGM := hML.G hg
            have eK : tK M = tK J := hML.same.K hg
            have eA : tA M 36 = tA J 36 := (hM.A (show t_row 36 from rfl)).trans (hL.A (show t_row 36 from rfl))
            have h02 : M 0 0 = nI 0 := ((hM.2 0 (by decide)).trans (hL.2 0 (by decide))).trans h01
            (conv => whnf)
            repeat' (first
              | ((with_reducible refine @And.intro (vp_in _ _) _ ?_ ?_); (· (first | with_reducible assumption | ((with_reducible refine t_vin ?_); decide) | ((with_reducible refine vp_in_nI ?_ ?_) <;> first | omega | decide) | (simp (disch := omega) only [xl_n, xl_m, nI_dec, nI_sb, nI_add, pk_mul]; (with_reducible refine vp_in_nI ?_ ?_) <;> first | omega | decide))); (conv => whnf))
              | (refine And.intro (by first | with_reducible assumption | exact (show tL _ = _ from rfl) | decide) ?_; (conv => whnf))
              | ((with_reducible refine @And.intro (_ = _) _ ?_ ?_); (· rfl); (conv => whnf))
              | ((with_reducible refine @And.intro (@LE.le Nat _ _ _) _ ?_ ?_); (· (first | exact Nat.zero_le _ | exact Nat.le_of_ble_eq_true rfl | omega)); (conv => whnf))
              | ((with_reducible refine @And.intro (@LT.lt Nat _ _ _) _ ?_ ?_); (· omega); (conv => whnf))
              | ((with_reducible refine @And.intro (∃ _, _ = _) _ ?_ ?_); (· exact ⟨_, rfl⟩); (conv => whnf))
              | ((with_reducible refine @And.intro (_ ∨ _) _ ?_ ?_); (· (first | exact Or.inl rfl | exact Or.inr rfl | exact t_b01 _ | assumption)); (conv => whnf))
              | ((with_reducible refine @And.intro (¬ (_ = _)) _ ?_ ?_); (· first | assumption | (with_reducible assumption)); (conv => whnf))
              | (refine hX _ _ _ _ _ _ ?_; (conv => whnf); fail_if_success show False)
              | (rw [t_si]; (conv => whnf))
              | (refine ⟨_, rfl, ?_⟩; (conv => whnf))
              | (refine ⟨_, _, rfl, ?_⟩; (conv => whnf))
              | (refine ⟨_, _, _, rfl, ?_⟩; (conv => whnf))
              | (refine ⟨_, _, _, _, rfl, ?_⟩; (conv => whnf))
              | (refine And.intro (fun c => ?_) (fun c => ?_) <;> (first | (exact absurd c (by decide +kernel)) | (conv => whnf)))
              | fail)
            refine ⟨36, g_act (tG J) a ++ g_act (tG J) b, g_alive (tK M) (tA M 36), true, rfl, rfl, hgM, by rw [eGM]; exact hnd, by rw [List.length_append]; omega, ?_, hcp2, fun z => (by cases z), fun N hN hA => ?_⟩
            · rw [t_p_eq ((hM.1 12 (by decide) (by decide) (by decide)).trans (hL.1 12 (by decide) (by decide) (by decide)))]
              intro q hq
              rcases List.mem_append.mp hq with h | h
              · exact hP q h
              · exact hP2 q h
            · rw [eGM, eK, eA]
              (conv => whnf)
              repeat' (first
                | ((with_reducible refine @And.intro (vp_in _ _) _ ?_ ?_); (· (first | with_reducible assumption | ((with_reducible refine t_vin ?_); decide) | ((with_reducible refine vp_in_nI ?_ ?_) <;> first | omega | decide) | (simp (disch := omega) only [xl_n, xl_m, nI_dec, nI_sb, nI_add, pk_mul]; (with_reducible refine vp_in_nI ?_ ?_) <;> first | omega | decide))); (conv => whnf))
                | (refine And.intro (by first | with_reducible assumption | exact (show tL _ = _ from rfl) | decide) ?_; (conv => whnf))
                | ((with_reducible refine @And.intro (_ = _) _ ?_ ?_); (· rfl); (conv => whnf))
                | ((with_reducible refine @And.intro (@LE.le Nat _ _ _) _ ?_ ?_); (· (first | exact Nat.zero_le _ | exact Nat.le_of_ble_eq_true rfl | omega)); (conv => whnf))
                | ((with_reducible refine @And.intro (@LT.lt Nat _ _ _) _ ?_ ?_); (· omega); (conv => whnf))
                | ((with_reducible refine @And.intro (∃ _, _ = _) _ ?_ ?_); (· exact ⟨_, rfl⟩); (conv => whnf))
                | ((with_reducible refine @And.intro (_ ∨ _) _ ?_ ?_); (· (first | exact Or.inl rfl | exact Or.inr rfl | exact t_b01 _ | assumption)); (conv => whnf))
                | ((with_reducible refine @And.intro (¬ (_ = _)) _ ?_ ?_); (· first | assumption | (with_reducible assumption)); (conv => whnf))
                | (refine hX _ _ _ _ _ _ ?_; (conv => whnf); fail_if_success show False)
                | (rw [t_si]; (conv => whnf))
                | (refine ⟨_, rfl, ?_⟩; (conv => whnf))
                | (refine ⟨_, _, rfl, ?_⟩; (conv => whnf))
                | (refine ⟨_, _, _, rfl, ?_⟩; (conv => whnf))
                | (refine ⟨_, _, _, _, rfl, ?_⟩; (conv => whnf))
                | (refine And.intro (fun c => ?_) (fun c => ?_) <;> (first | (exact absurd c (by decide +kernel)) | (conv => whnf)))
                | fail)
              · have c2 : g_ans true (g_bothL (tG J) a b) ≤ 0 := by assumption
                rw [g_ans_le] at c2
                rw [c2] at hQ
                exact t_ask hQ hg (hML.tr hN.sp) ((hN.2 0 (by decide) (by decide)).trans h02) rfl
              · have c2 : ¬ g_ans true (g_bothL (tG J) a b) ≤ 0 := by assumption
                rw [g_ans_le, Bool.not_eq_false] at c2
                rw [c2] at hQ
                exact t_ask hQ hg (hML.tr hN.sp) ((hN.2 0 (by decide) (by decide)).trans h02) rfl
        · have c' : ¬ g_bits (tG J) a &&& g_bits (tG J) b = 0 := by assumption
          rw [← nI_0] at c'
          rw [if_neg c'] at hQ
          exact t_ask hQ hg t_sp.rf h01 xl_n.1
        · exact absurd (Classical.not_not.mp (by assumption)) nab
    · rw [q_both] at hQ
      repeat' (first
        | ((with_reducible refine @And.intro (vp_in _ _) _ ?_ ?_); (· (first | with_reducible assumption | ((with_reducible refine t_vin ?_); decide) | ((with_reducible refine vp_in_nI ?_ ?_) <;> first | omega | decide) | (simp (disch := omega) only [xl_n, xl_m, nI_dec, nI_sb, nI_add, pk_mul]; (with_reducible refine vp_in_nI ?_ ?_) <;> first | omega | decide))); (conv => whnf))
        | (refine And.intro (by first | with_reducible assumption | exact (show tL _ = _ from rfl) | decide) ?_; (conv => whnf))
        | ((with_reducible refine @And.intro (_ = _) _ ?_ ?_); (· rfl); (conv => whnf))
        | ((with_reducible refine @And.intro (@LE.le Nat _ _ _) _ ?_ ?_); (· (first | exact Nat.zero_le _ | exact Nat.le_of_ble_eq_true rfl | omega)); (conv => whnf))
        | ((with_reducible refine @And.intro (@LT.lt Nat _ _ _) _ ?_ ?_); (· omega); (conv => whnf))
        | ((with_reducible refine @And.intro (∃ _, _ = _) _ ?_ ?_); (· exact ⟨_, rfl⟩); (conv => whnf))
        | ((with_reducible refine @And.intro (_ ∨ _) _ ?_ ?_); (· (first | exact Or.inl rfl | exact Or.inr rfl | exact t_b01 _ | assumption)); (conv => whnf))
        | ((with_reducible refine @And.intro (¬ (_ = _)) _ ?_ ?_); (· first | assumption | (with_reducible assumption)); (conv => whnf))
        | (refine hX _ _ _ _ _ _ ?_; (conv => whnf); fail_if_success show False)
        | (rw [t_si]; (conv => whnf))
        | (refine ⟨_, rfl, ?_⟩; (conv => whnf))
        | (refine ⟨_, _, rfl, ?_⟩; (conv => whnf))
        | (refine ⟨_, _, _, rfl, ?_⟩; (conv => whnf))
        | (refine ⟨_, _, _, _, rfl, ?_⟩; (conv => whnf))
        | (rw [e1]; (conv => whnf))
        | (rw [e2]; (conv => whnf))
        | (refine And.intro (fun c => ?_) (fun c => ?_) <;> (first | (exact absurd c (by decide +kernel)) | (conv => whnf)))
        | fail)
      exact t_ref' hQ hg h01 (by simp [f1, f2]) (by decide) rfl rfl
  · rw [q_both] at hQ
    repeat' (first
      | ((with_reducible refine @And.intro (vp_in _ _) _ ?_ ?_); (· (first | with_reducible assumption | ((with_reducible refine t_vin ?_); decide) | ((with_reducible refine vp_in_nI ?_ ?_) <;> first | omega | decide) | (simp (disch := omega) only [xl_n, xl_m, nI_dec, nI_sb, nI_add, pk_mul]; (with_reducible refine vp_in_nI ?_ ?_) <;> first | omega | decide))); (conv => whnf))
      | (refine And.intro (by first | with_reducible assumption | exact (show tL _ = _ from rfl) | decide) ?_; (conv => whnf))
      | ((with_reducible refine @And.intro (_ = _) _ ?_ ?_); (· rfl); (conv => whnf))
      | ((with_reducible refine @And.intro (@LE.le Nat _ _ _) _ ?_ ?_); (· (first | exact Nat.zero_le _ | exact Nat.le_of_ble_eq_true rfl | omega)); (conv => whnf))
      | ((with_reducible refine @And.intro (@LT.lt Nat _ _ _) _ ?_ ?_); (· omega); (conv => whnf))
      | ((with_reducible refine @And.intro (∃ _, _ = _) _ ?_ ?_); (· exact ⟨_, rfl⟩); (conv => whnf))
      | ((with_reducible refine @And.intro (_ ∨ _) _ ?_ ?_); (· (first | exact Or.inl rfl | exact Or.inr rfl | exact t_b01 _ | assumption)); (conv => whnf))
      | ((with_reducible refine @And.intro (¬ (_ = _)) _ ?_ ?_); (· first | assumption | (with_reducible assumption)); (conv => whnf))
      | (refine hX _ _ _ _ _ _ ?_; (conv => whnf); fail_if_success show False)
      | (rw [t_si]; (conv => whnf))
      | (refine ⟨_, rfl, ?_⟩; (conv => whnf))
      | (refine ⟨_, _, rfl, ?_⟩; (conv => whnf))
      | (refine ⟨_, _, _, rfl, ?_⟩; (conv => whnf))
      | (refine ⟨_, _, _, _, rfl, ?_⟩; (conv => whnf))
      | (rw [e1]; (conv => whnf))
      | (refine And.intro (fun c => ?_) (fun c => ?_) <;> (first | (exact absurd c (by decide +kernel)) | (conv => whnf)))
      | fail)
    exact t_ref' hQ hg h01 (by simp [f1]) (by decide) rfl rfl
theorem ct_X11_both {Iv : xI} (hI : xm_good Iv) : xm_Ct Iv yX11_both (ws_ yX11_both cX11_both 3 (some .boolean)) 24 0 0 S_X11_both := xm_enter (rt := 1) (init := false) (by decide +kernel) rfl (fun h => by cases h) (Or.inr (Or.inl ⟨rfl, Or.inl rfl⟩)) (oX11_both hI) body_X11_both
theorem cv_X11_both {Iv : xI} {own : String} {cc : ByteArray} {fr pc idx : Nat} (hI : xm_good Iv) (hdg : decode cc pc = .ok (.invokevirtual idx, 3)) (hl : xm_ml own idx yX11_both) (hfr : 24 < fr) : xm_CallOK Iv own cc fr pc (pc + 3) 3 0 0 (xm_this 8 S_X11_both) := xm_callV 8 hI (ct_X11_both hI) hdg hl q2481 q2482 q145 q2483 rfl rfl (by decide +kernel) hfr (by decide)
def g_costN (G : gG) (h n : Nat) : Int32 := t_sum n fun a => if (g_is (g_nowc G a) && !g_is (g_casts G (gnow G) (g_alive (gGK G) (gnow G) &&& (t_bit h ^^^ nM)) a)) = true then nI 1 else nI 0
def g_cost (G : gG) (h : Nat) : Int32 := g_costN G h (gacts G)
abbrev bX11_costOf_0 : List xE := [(.iconst 0, 1, 0, 0, 0), (.istore_n 2, 2, 0, 0, 0), (.iconst 0, 3, 0, 0, 0), (.istore_n 3, 4, 0, 0, 0)]
abbrev bX11_costOf_4 : List xE := [(.iload_n 3, 5, 0, 0, 0), (.aload_n 0, 6, 0, 0, 0), (.getfield 23, 9, 8, 12, 1), (.iconst 2, 10, 0, 0, 0), (.iaload, 11, 0, 0, 0), (.if_icmp .ge 64, 14, 0, 75, 0), (.aload_n 0, 15, 0, 0, 0), (.aload_n 0, 16, 0, 0, 0), (.getfield 91, 19, 8, 36, 1), (.iload_n 3, 20, 0, 0, 0), (.invokevirtual 388, 23, 0, 0, 9), (.ifCond .ne 6, 26, 0, 29, 0), (.goto 43, 29, 0, 69, 0)]
abbrev bX11_costOf_29 : List xE := [(.aload_n 0, 30, 0, 0, 0), (.iload_n 3, 31, 0, 0, 0), (.iconst 0, 32, 0, 0, 0), (.invokevirtual 408, 35, 0, 1, 9), (.iload_n 2, 36, 0, 0, 0), (.aload_n 0, 37, 0, 0, 0), (.aload_n 0, 38, 0, 0, 0), (.getfield 91, 41, 8, 36, 1), (.aload_n 0, 42, 0, 0, 0), (.aload_n 0, 43, 0, 0, 0), (.getfield 91, 46, 8, 36, 1), (.invokevirtual 324, 49, 0, 2, 9), (.iconst 1, 50, 0, 0, 0), (.iload_n 1, 51, 0, 0, 0), (.ishl, 52, 0, 0, 0), (.iconst (-1), 53, 0, 0, 0), (.ixor, 54, 0, 0, 0), (.iand, 55, 0, 0, 0), (.iconst 1, 56, 0, 0, 0), (.invokevirtual 411, 59, 0, 3, 9), (.ifCond .ne 7, 62, 0, 66, 0), (.iconst 1, 63, 0, 0, 0), (.goto 4, 66, 0, 67, 0)]
abbrev bX11_costOf_66 : List xE := [(.iconst 0, 67, 0, 0, 0)]
abbrev bX11_costOf_67 : List xE := [(.iadd, 68, 0, 0, 0), (.istore_n 2, 69, 0, 0, 0)]
abbrev bX11_costOf_69 : List xE := [(.iinc 3 1, 72, 0, 0, 0), (.goto (-68), 75, 0, 4, 0)]
abbrev bX11_costOf_75 : List xE := [(.iload_n 2, 76, 0, 0, 0), (.ireturn, 77, 0, 0, 0)]
abbrev kX11_costOf : List (Nat × List xE) := [(0, bX11_costOf_0), (4, bX11_costOf_4), (29, bX11_costOf_29), (66, bX11_costOf_66), (67, bX11_costOf_67), (69, bX11_costOf_69), (75, bX11_costOf_75)]
abbrev lX11_costOf : List (Nat × Nat × Nat × xS) := [(3, 0, 0, xm_this 8 S_X11_isCast), (3, 0, 0, xm_this 8 S_X11_sets), (2, 0, 0, xm_this 8 S_X11_aliveOf), (4, 0, 0, xm_this 8 S_X11_castsNow)]
theorem oX11_costOf_0 {Iv : xI} (hI : xm_good Iv)  : xm_okb Iv RX11 cX11_costOf false 25 lX11_costOf bX11_costOf_0 0 := xo_0 dX11_costOf_0 rfl trivial (xo_0 dX11_costOf_1 rfl trivial (xo_0 dX11_costOf_2 rfl trivial (xo_0 dX11_costOf_3 rfl trivial (xo_n))))
theorem oX11_costOf_4 {Iv : xI} (hI : xm_good Iv)  : xm_okb Iv RX11 cX11_costOf false 25 lX11_costOf bX11_costOf_4 4 := xo_0 dX11_costOf_4 rfl trivial (xo_0 dX11_costOf_5 rfl trivial (xo_1 dX11_costOf_6 rfl (xm_fg_of (Or.inl q1967) (by decide) rfl (by decide) rfl rfl (Or.inl rfl) rfl) (xo_0 dX11_costOf_9 rfl trivial (xo_0 dX11_costOf_10 rfl trivial (xo_0 dX11_costOf_11 rfl rfl (xo_0 dX11_costOf_14 rfl trivial (xo_0 dX11_costOf_15 rfl trivial (xo_1 dX11_costOf_16 rfl (xm_fg_of (Or.inl q1991) (by decide) rfl (by decide) rfl rfl (Or.inl rfl) rfl) (xo_0 dX11_costOf_19 rfl trivial (xo_c rfl (cv_X11_isCast hI dX11_costOf_20 (Or.inl q2419) (by decide)) (xo_0 dX11_costOf_23 rfl rfl (xo_0 dX11_costOf_26 rfl rfl (xo_n)))))))))))))
theorem oX11_costOf_29 {Iv : xI} (hI : xm_good Iv)  : xm_okb Iv RX11 cX11_costOf false 25 lX11_costOf bX11_costOf_29 29 := xo_0 dX11_costOf_29 rfl trivial (xo_0 dX11_costOf_30 rfl trivial (xo_0 dX11_costOf_31 rfl trivial (xo_c rfl (cv_X11_sets hI dX11_costOf_32 (Or.inl q2423) (by decide)) (xo_0 dX11_costOf_35 rfl trivial (xo_0 dX11_costOf_36 rfl trivial (xo_0 dX11_costOf_37 rfl trivial (xo_1 dX11_costOf_38 rfl (xm_fg_of (Or.inl q1991) (by decide) rfl (by decide) rfl rfl (Or.inl rfl) rfl) (xo_0 dX11_costOf_41 rfl trivial (xo_0 dX11_costOf_42 rfl trivial (xo_1 dX11_costOf_43 rfl (xm_fg_of (Or.inl q1991) (by decide) rfl (by decide) rfl rfl (Or.inl rfl) rfl) (xo_c rfl (cv_X11_aliveOf hI dX11_costOf_46 (Or.inl q2288) (by decide)) (xo_0 dX11_costOf_49 rfl trivial (xo_0 dX11_costOf_50 rfl trivial (xo_0 dX11_costOf_51 rfl trivial (xo_0 dX11_costOf_52 rfl trivial (xo_0 dX11_costOf_53 rfl trivial (xo_0 dX11_costOf_54 rfl trivial (xo_0 dX11_costOf_55 rfl trivial (xo_c rfl (cv_X11_castsNow hI dX11_costOf_56 (Or.inl q2427) (by decide)) (xo_0 dX11_costOf_59 rfl rfl (xo_0 dX11_costOf_62 rfl trivial (xo_0 dX11_costOf_63 rfl rfl (xo_n)))))))))))))))))))))))
theorem oX11_costOf_66 {Iv : xI} (hI : xm_good Iv)  : xm_okb Iv RX11 cX11_costOf false 25 lX11_costOf bX11_costOf_66 66 := xo_0 dX11_costOf_66 rfl trivial (xo_n)
theorem oX11_costOf_67 {Iv : xI} (hI : xm_good Iv)  : xm_okb Iv RX11 cX11_costOf false 25 lX11_costOf bX11_costOf_67 67 := xo_0 dX11_costOf_67 rfl trivial (xo_0 dX11_costOf_68 rfl trivial (xo_n))
theorem oX11_costOf_69 {Iv : xI} (hI : xm_good Iv)  : xm_okb Iv RX11 cX11_costOf false 25 lX11_costOf bX11_costOf_69 69 := xo_0 dX11_costOf_69 rfl trivial (xo_0 dX11_costOf_72 rfl rfl (xo_n))
theorem oX11_costOf_75 {Iv : xI} (hI : xm_good Iv)  : xm_okb Iv RX11 cX11_costOf false 25 lX11_costOf bX11_costOf_75 75 := xo_0 dX11_costOf_75 rfl trivial (xo_0 dX11_costOf_76 rfl trivial (xo_n))
theorem oX11_costOf {Iv : xI} (hI : xm_good Iv)  : ∀ q ∈ kX11_costOf, xm_okb Iv RX11 cX11_costOf false 25 lX11_costOf q.2 q.1 := by
  intro q hq
  simp only [List.mem_cons, List.not_mem_nil, or_false] at hq
  rcases hq with rfl | rfl | rfl | rfl | rfl | rfl | rfl
  · exact oX11_costOf_0 hI  
  · exact oX11_costOf_4 hI  
  · exact oX11_costOf_29 hI  
  · exact oX11_costOf_66 hI  
  · exact oX11_costOf_67 hI  
  · exact oX11_costOf_69 hI  
  · exact oX11_costOf_75 hI  
def S_X11_costOf : xS := tU fun as I Q => ∃ h, as = [.ref 0, .int (nI h)] ∧ t_good I ∧ g_need (tG I) ∧ h < 9 ∧ ∀ J, t_sp I J → J 0 0 = I 0 0 → Q (some (.int (g_cost (tG I) h))) J
theorem body_X11_costOf : xm_Body 4 0 0 0 [] lX11_costOf kX11_costOf S_X11_costOf := by
  intro X avs w Q QX hX0 hS
  have hG := xm_go [] hX0
  have hX := xm_go [4] hX0
  clear hX0
  obtain ⟨I, rfl, h, rfl, hg, hnd, hh, hQ⟩ := hS
  have hok := hg.1
  have ha2 := hok.2.2.2.2.1
  have h6a := hok.2.2.2.2.2
  have l1 : ∀ a, a ≤ t_a I → ∀ M, t_sp I M → M 0 0 = I 0 0 → X 4 [some (.ref 0), some (.int (nI h)), some (.int (g_costN (tG I) h a)), some (.int (nI a))] [] (tW M) 0 0 := by
    refine t_for fun a h1 ih M hM h0 => ?_
    have hgM := hM.good hg
    have eG := hM.G hg
    have eK : tK M = tK I := hM.same.K hg
    have eA : tA M 36 = tA I 36 := tA_eq fun j _ => by rw [hM.1 36 (by decide) (t_nf (by omega))]
    have m2 : M 12 2 = nI (t_a I) := by rw [hM.1 12 (by decide) (t_nf (by omega))]; exact ha2
    have nx := ih (a + 1) (by omega)
    clear ih
    refine hG _ _ _ _ _ _ ?_
    (conv => whnf)
    repeat' (first
      | ((with_reducible refine @And.intro (vp_in _ _) _ ?_ ?_); (· (first | with_reducible assumption | ((with_reducible refine t_vin ?_); decide) | ((with_reducible refine vp_in_nI ?_ ?_) <;> first | omega | decide) | (simp (disch := omega) only [xl_n, xl_m, nI_dec, nI_sb, nI_add, pk_mul]; (with_reducible refine vp_in_nI ?_ ?_) <;> first | omega | decide))); (conv => whnf))
      | (refine And.intro (by first | with_reducible assumption | exact (show tL _ = _ from rfl) | decide) ?_; (conv => whnf))
      | ((with_reducible refine @And.intro (_ = _) _ ?_ ?_); (· rfl); (conv => whnf))
      | ((with_reducible refine @And.intro (@LE.le Nat _ _ _) _ ?_ ?_); (· (first | exact Nat.zero_le _ | exact Nat.le_of_ble_eq_true rfl | omega)); (conv => whnf))
      | ((with_reducible refine @And.intro (@LT.lt Nat _ _ _) _ ?_ ?_); (· omega); (conv => whnf))
      | ((with_reducible refine @And.intro (∃ _, _ = _) _ ?_ ?_); (· exact ⟨_, rfl⟩); (conv => whnf))
      | ((with_reducible refine @And.intro (_ ∨ _) _ ?_ ?_); (· (first | exact Or.inl rfl | exact Or.inr rfl | exact t_b01 _ | assumption)); (conv => whnf))
      | ((with_reducible refine @And.intro (¬ (_ = _)) _ ?_ ?_); (· first | assumption | (with_reducible assumption)); (conv => whnf))
      | (refine hX _ _ _ _ _ _ ?_; (conv => whnf); fail_if_success show False)
      | (rw [t_si]; (conv => whnf))
      | (refine ⟨_, rfl, ?_⟩; (conv => whnf))
      | (refine ⟨_, _, rfl, ?_⟩; (conv => whnf))
      | (refine ⟨_, _, _, rfl, ?_⟩; (conv => whnf))
      | (refine ⟨_, _, _, _, rfl, ?_⟩; (conv => whnf))
      | fail)
    refine And.intro (fun c => ?_) (fun c => ?_) <;> (conv => whnf)
    · have : a = t_a I := Nat.le_antisymm h1 (t_kge m2 c (by omega) (by omega))
      subst this
      repeat' (first
        | ((with_reducible refine @And.intro (vp_in _ _) _ ?_ ?_); (· (first | with_reducible assumption | ((with_reducible refine t_vin ?_); decide) | ((with_reducible refine vp_in_nI ?_ ?_) <;> first | omega | decide) | (simp (disch := omega) only [xl_n, xl_m, nI_dec, nI_sb, nI_add, pk_mul]; (with_reducible refine vp_in_nI ?_ ?_) <;> first | omega | decide))); (conv => whnf))
        | (refine And.intro (by first | with_reducible assumption | exact (show tL _ = _ from rfl) | decide) ?_; (conv => whnf))
        | ((with_reducible refine @And.intro (_ = _) _ ?_ ?_); (· rfl); (conv => whnf))
        | ((with_reducible refine @And.intro (@LE.le Nat _ _ _) _ ?_ ?_); (· (first | exact Nat.zero_le _ | exact Nat.le_of_ble_eq_true rfl | omega)); (conv => whnf))
        | ((with_reducible refine @And.intro (@LT.lt Nat _ _ _) _ ?_ ?_); (· omega); (conv => whnf))
        | ((with_reducible refine @And.intro (∃ _, _ = _) _ ?_ ?_); (· exact ⟨_, rfl⟩); (conv => whnf))
        | ((with_reducible refine @And.intro (_ ∨ _) _ ?_ ?_); (· (first | exact Or.inl rfl | exact Or.inr rfl | exact t_b01 _ | assumption)); (conv => whnf))
        | ((with_reducible refine @And.intro (¬ (_ = _)) _ ?_ ?_); (· first | assumption | (with_reducible assumption)); (conv => whnf))
        | (refine hX _ _ _ _ _ _ ?_; (conv => whnf); fail_if_success show False)
        | (rw [t_si]; (conv => whnf))
        | (refine ⟨_, rfl, ?_⟩; (conv => whnf))
        | (refine ⟨_, _, rfl, ?_⟩; (conv => whnf))
        | (refine ⟨_, _, _, rfl, ?_⟩; (conv => whnf))
        | (refine ⟨_, _, _, _, rfl, ?_⟩; (conv => whnf))
        | (refine And.intro (fun c => ?_) (fun c => ?_) <;> (first | (exact absurd c (by decide +kernel)) | (conv => whnf)))
        | fail)
      exact hQ M hM h0
    · have ha : a < t_a I := t_klt m2 c (by omega)
      have haM : a < t_a M := by
        have : t_a M = t_a I := by unfold t_a; rw [hM.1 12 (by decide) (t_nf (by omega))]
        omega
      have hndM : g_need (tG M) := by rw [eG]; exact hnd
      obtain ⟨hP, h6⟩ := t_act_ok hg ha
      repeat' (first
        | ((with_reducible refine @And.intro (vp_in _ _) _ ?_ ?_); (· (first | with_reducible assumption | ((with_reducible refine t_vin ?_); decide) | ((with_reducible refine vp_in_nI ?_ ?_) <;> first | omega | decide) | (simp (disch := omega) only [xl_n, xl_m, nI_dec, nI_sb, nI_add, pk_mul]; (with_reducible refine vp_in_nI ?_ ?_) <;> first | omega | decide))); (conv => whnf))
        | (refine And.intro (by first | with_reducible assumption | exact (show tL _ = _ from rfl) | decide) ?_; (conv => whnf))
        | ((with_reducible refine @And.intro (_ = _) _ ?_ ?_); (· rfl); (conv => whnf))
        | ((with_reducible refine @And.intro (@LE.le Nat _ _ _) _ ?_ ?_); (· (first | exact Nat.zero_le _ | exact Nat.le_of_ble_eq_true rfl | omega)); (conv => whnf))
        | ((with_reducible refine @And.intro (@LT.lt Nat _ _ _) _ ?_ ?_); (· omega); (conv => whnf))
        | ((with_reducible refine @And.intro (∃ _, _ = _) _ ?_ ?_); (· exact ⟨_, rfl⟩); (conv => whnf))
        | ((with_reducible refine @And.intro (_ ∨ _) _ ?_ ?_); (· (first | exact Or.inl rfl | exact Or.inr rfl | exact t_b01 _ | assumption)); (conv => whnf))
        | ((with_reducible refine @And.intro (¬ (_ = _)) _ ?_ ?_); (· first | assumption | (with_reducible assumption)); (conv => whnf))
        | (refine hX _ _ _ _ _ _ ?_; (conv => whnf); fail_if_success show False)
        | (rw [t_si]; (conv => whnf))
        | (refine ⟨_, rfl, ?_⟩; (conv => whnf))
        | (refine ⟨_, _, rfl, ?_⟩; (conv => whnf))
        | (refine ⟨_, _, _, rfl, ?_⟩; (conv => whnf))
        | (refine ⟨_, _, _, _, rfl, ?_⟩; (conv => whnf))
        | (refine And.intro (fun c => ?_) (fun c => ?_) <;> (first | (exact absurd c (by decide +kernel)) | (conv => whnf)))
        | fail)
      intro L hL h0L eAL
      rw [eG, eK, eA]
      have hLs := hM.tr hL
      have h02 := h0L.trans h0
      have hgL := hLs.good hg
      have eGL := hLs.G hg
      have haL : a < t_a L := by
        have : t_a L = t_a I := by unfold t_a; rw [hLs.1 12 (by decide) (t_nf (by omega))]
        omega
      have nx1 := nx (by omega) L hLs h02
      (conv => whnf)
      have es : g_costN (tG I) h (a + 1) = g_costN (tG I) h a + (if (g_is (g_nowc (tG I) a) && !g_is (g_casts (tG I) (tA I 36) (g_alive (tK I) (tA I 36) &&& (t_bit h ^^^ nM)) a)) = true then nI 1 else nI 0) := rfl
      repeat' (first
        | ((with_reducible refine @And.intro (vp_in _ _) _ ?_ ?_); (· (first | with_reducible assumption | ((with_reducible refine t_vin ?_); decide) | ((with_reducible refine vp_in_nI ?_ ?_) <;> first | omega | decide) | (simp (disch := omega) only [xl_n, xl_m, nI_dec, nI_sb, nI_add, pk_mul]; (with_reducible refine vp_in_nI ?_ ?_) <;> first | omega | decide))); (conv => whnf))
        | (refine And.intro (by first | with_reducible assumption | exact (show tL _ = _ from rfl) | decide) ?_; (conv => whnf))
        | ((with_reducible refine @And.intro (_ = _) _ ?_ ?_); (· rfl); (conv => whnf))
        | ((with_reducible refine @And.intro (@LE.le Nat _ _ _) _ ?_ ?_); (· (first | exact Nat.zero_le _ | exact Nat.le_of_ble_eq_true rfl | omega)); (conv => whnf))
        | ((with_reducible refine @And.intro (@LT.lt Nat _ _ _) _ ?_ ?_); (· omega); (conv => whnf))
        | ((with_reducible refine @And.intro (∃ _, _ = _) _ ?_ ?_); (· exact ⟨_, rfl⟩); (conv => whnf))
        | ((with_reducible refine @And.intro (_ ∨ _) _ ?_ ?_); (· (first | exact Or.inl rfl | exact Or.inr rfl | exact t_b01 _ | assumption)); (conv => whnf))
        | ((with_reducible refine @And.intro (¬ (_ = _)) _ ?_ ?_); (· first | assumption | (with_reducible assumption)); (conv => whnf))
        | (refine hX _ _ _ _ _ _ ?_; (conv => whnf); fail_if_success show False)
        | (rw [t_si]; (conv => whnf))
        | (refine ⟨_, rfl, ?_⟩; (conv => whnf))
        | (refine ⟨_, _, rfl, ?_⟩; (conv => whnf))
        | (refine ⟨_, _, _, rfl, ?_⟩; (conv => whnf))
        | (refine ⟨_, _, _, _, rfl, ?_⟩; (conv => whnf))
        | (refine And.intro (fun c => ?_) (fun c => ?_) <;> (first | (exact absurd c (by decide +kernel)) | (conv => whnf)))
        | fail)
      · have c1 : ¬ t_b (g_is (g_nowc (tG I) a)) = 0 := by assumption
        rw [t_b0, Bool.not_eq_false] at c1
        rw [c1, Bool.true_and] at es
        refine ⟨a, [], rfl, hgL, haL, Nat.zero_le _, t_cq_0, fun N hN hcp => ?_⟩
        rw [List.nil_append, eGL] at hcp
        have hNs := hLs.tr hN.sp
        have hgN := hNs.good hg
        have hokN := hgN.1
        have eGN := hNs.G hg
        have eKN : tK N = tK I := hNs.same.K hg
        have eAN : tA N 36 = tA I 36 := tA_eq fun j _ => by rw [hNs.1 36 (by decide) (t_nf (by omega))]
        (conv => whnf)
        repeat' (first
          | ((with_reducible refine @And.intro (vp_in _ _) _ ?_ ?_); (· (first | with_reducible assumption | ((with_reducible refine t_vin ?_); decide) | ((with_reducible refine vp_in_nI ?_ ?_) <;> first | omega | decide) | (simp (disch := omega) only [xl_n, xl_m, nI_dec, nI_sb, nI_add, pk_mul]; (with_reducible refine vp_in_nI ?_ ?_) <;> first | omega | decide))); (conv => whnf))
          | (refine And.intro (by first | with_reducible assumption | exact (show tL _ = _ from rfl) | decide) ?_; (conv => whnf))
          | ((with_reducible refine @And.intro (_ = _) _ ?_ ?_); (· rfl); (conv => whnf))
          | ((with_reducible refine @And.intro (@LE.le Nat _ _ _) _ ?_ ?_); (· (first | exact Nat.zero_le _ | exact Nat.le_of_ble_eq_true rfl | omega)); (conv => whnf))
          | ((with_reducible refine @And.intro (@LT.lt Nat _ _ _) _ ?_ ?_); (· omega); (conv => whnf))
          | ((with_reducible refine @And.intro (∃ _, _ = _) _ ?_ ?_); (· exact ⟨_, rfl⟩); (conv => whnf))
          | ((with_reducible refine @And.intro (_ ∨ _) _ ?_ ?_); (· (first | exact Or.inl rfl | exact Or.inr rfl | exact t_b01 _ | assumption)); (conv => whnf))
          | ((with_reducible refine @And.intro (¬ (_ = _)) _ ?_ ?_); (· first | assumption | (with_reducible assumption)); (conv => whnf))
          | (refine hX _ _ _ _ _ _ ?_; (conv => whnf); fail_if_success show False)
          | (rw [t_si]; (conv => whnf))
          | (refine ⟨_, rfl, ?_⟩; (conv => whnf))
          | (refine ⟨_, _, rfl, ?_⟩; (conv => whnf))
          | (refine ⟨_, _, _, rfl, ?_⟩; (conv => whnf))
          | (refine ⟨_, _, _, _, rfl, ?_⟩; (conv => whnf))
          | (refine And.intro (fun c => ?_) (fun c => ?_) <;> (first | (exact absurd c (by decide +kernel)) | (conv => whnf)))
          | fail)
        refine ⟨36, g_act (tG I) a, g_alive (tK N) (tA N 36) &&& (t_bit h ^^^ nM), true, rfl, rfl, hgN, by rw [eGN]; exact hnd, by omega, ?_, hcp, fun z => (by cases z), fun U hU hA => ?_⟩
        · rw [t_p_eq (hNs.1 12 (by decide) (t_nf (by omega)))]
          exact hP
        · rw [eGN, eKN, eAN]
          have nx2 := nx (by omega) U (hNs.tr hU.sp) (((hU.2 0 (by decide) (by decide)).trans (hN.2 0 (by decide))).trans h02)
          rw [es] at nx2
          (conv => whnf)
          repeat' (first
            | ((with_reducible refine @And.intro (vp_in _ _) _ ?_ ?_); (· (first | with_reducible assumption | ((with_reducible refine t_vin ?_); decide) | ((with_reducible refine vp_in_nI ?_ ?_) <;> first | omega | decide) | (simp (disch := omega) only [xl_n, xl_m, nI_dec, nI_sb, nI_add, pk_mul]; (with_reducible refine vp_in_nI ?_ ?_) <;> first | omega | decide))); (conv => whnf))
            | (refine And.intro (by first | with_reducible assumption | exact (show tL _ = _ from rfl) | decide) ?_; (conv => whnf))
            | ((with_reducible refine @And.intro (_ = _) _ ?_ ?_); (· rfl); (conv => whnf))
            | ((with_reducible refine @And.intro (@LE.le Nat _ _ _) _ ?_ ?_); (· (first | exact Nat.zero_le _ | exact Nat.le_of_ble_eq_true rfl | omega)); (conv => whnf))
            | ((with_reducible refine @And.intro (@LT.lt Nat _ _ _) _ ?_ ?_); (· omega); (conv => whnf))
            | ((with_reducible refine @And.intro (∃ _, _ = _) _ ?_ ?_); (· exact ⟨_, rfl⟩); (conv => whnf))
            | ((with_reducible refine @And.intro (_ ∨ _) _ ?_ ?_); (· (first | exact Or.inl rfl | exact Or.inr rfl | exact t_b01 _ | assumption)); (conv => whnf))
            | ((with_reducible refine @And.intro (¬ (_ = _)) _ ?_ ?_); (· first | assumption | (with_reducible assumption)); (conv => whnf))
            | (refine hX _ _ _ _ _ _ ?_; (conv => whnf); fail_if_success show False)
            | (rw [t_si]; (conv => whnf))
            | (refine ⟨_, rfl, ?_⟩; (conv => whnf))
            | (refine ⟨_, _, rfl, ?_⟩; (conv => whnf))
            | (refine ⟨_, _, _, rfl, ?_⟩; (conv => whnf))
            | (refine ⟨_, _, _, _, rfl, ?_⟩; (conv => whnf))
            | (refine And.intro (fun c => ?_) (fun c => ?_) <;> (first | (exact absurd c (by decide +kernel)) | (conv => whnf)))
            | fail)
          · have c2 : ¬ g_ans true (g_casts (tG I) (tA I 36) (g_alive (tK I) (tA I 36) &&& (t_bit h ^^^ nM)) a) = 0 := by assumption
            rw [g_ans_eq, Bool.not_eq_false] at c2
            rw [c2] at nx2
            clear hX hG hQ
            simp (disch := omega) only [xl_n, xl_m, nI_dec, nI_sb, xl_0, xl_1, tW_i, t_bn0, t_bn1, Classical.not_not, t_lt, nI_add, nI_1, pk_mul, nI_clamp, t_si, nI_eq, nI_leI, nM_ne, nM_ne, xm_set, xm_lv0, xm_psh] at *
            exact nx2
          · have c2 : g_ans true (g_casts (tG I) (tA I 36) (g_alive (tK I) (tA I 36) &&& (t_bit h ^^^ nM)) a) = 0 := Classical.not_not.mp (by assumption)
            rw [g_ans_eq] at c2
            rw [c2] at nx2
            clear hX hG hQ
            simp (disch := omega) only [xl_n, xl_m, nI_dec, nI_sb, xl_0, xl_1, tW_i, t_bn0, t_bn1, Classical.not_not, t_lt, nI_add, nI_1, pk_mul, nI_clamp, t_si, nI_eq, nI_leI, nM_ne, nM_ne, xm_set, xm_lv0, xm_psh] at *
            exact nx2
      · have c1 : t_b (g_is (g_nowc (tG I) a)) = 0 := Classical.not_not.mp (by assumption)
        rw [t_b0] at c1
        rw [es, c1, Bool.false_and, if_neg (by decide)] at nx1
        have e0 : g_costN (tG I) h a + nI 0 = g_costN (tG I) h a := Int32.add_zero _
        rw [e0] at nx1
        clear hX hG hQ
        simp (disch := omega) only [xl_n, xl_m, nI_dec, nI_sb, xl_0, xl_1, tW_i, t_bn0, t_bn1, Classical.not_not, t_lt, nI_add, nI_1, pk_mul, nI_clamp, t_si, nI_eq, nI_leI, nM_ne, nM_ne, xm_set, xm_lv0, xm_psh] at *
        exact nx1
  refine ⟨rfl, ?_⟩
  repeat' (first
    | ((with_reducible refine @And.intro (vp_in _ _) _ ?_ ?_); (· (first | with_reducible assumption | ((with_reducible refine t_vin ?_); decide) | ((with_reducible refine vp_in_nI ?_ ?_) <;> first | omega | decide) | (simp (disch := omega) only [xl_n, xl_m, nI_dec, nI_sb, nI_add, pk_mul]; (with_reducible refine vp_in_nI ?_ ?_) <;> first | omega | decide))); (conv => whnf))
    | (refine And.intro (by first | with_reducible assumption | exact (show tL _ = _ from rfl) | decide) ?_; (conv => whnf))
    | ((with_reducible refine @And.intro (_ = _) _ ?_ ?_); (· rfl); (conv => whnf))
    | ((with_reducible refine @And.intro (@LE.le Nat _ _ _) _ ?_ ?_); (· (first | exact Nat.zero_le _ | exact Nat.le_of_ble_eq_true rfl | omega)); (conv => whnf))
    | ((with_reducible refine @And.intro (@LT.lt Nat _ _ _) _ ?_ ?_); (· omega); (conv => whnf))
    | ((with_reducible refine @And.intro (∃ _, _ = _) _ ?_ ?_); (· exact ⟨_, rfl⟩); (conv => whnf))
    | ((with_reducible refine @And.intro (_ ∨ _) _ ?_ ?_); (· (first | exact Or.inl rfl | exact Or.inr rfl | exact t_b01 _ | assumption)); (conv => whnf))
    | ((with_reducible refine @And.intro (¬ (_ = _)) _ ?_ ?_); (· first | assumption | (with_reducible assumption)); (conv => whnf))
    | (refine hX _ _ _ _ _ _ ?_; (conv => whnf); fail_if_success show False)
    | (rw [t_si]; (conv => whnf))
    | (refine ⟨_, rfl, ?_⟩; (conv => whnf))
    | (refine ⟨_, _, rfl, ?_⟩; (conv => whnf))
    | (refine ⟨_, _, _, rfl, ?_⟩; (conv => whnf))
    | (refine ⟨_, _, _, _, rfl, ?_⟩; (conv => whnf))
    | (refine And.intro (fun c => ?_) (fun c => ?_) <;> (first | (exact absurd c (by decide +kernel)) | (conv => whnf)))
    | fail)
  exact l1 0 (Nat.zero_le _) I t_sp.rf rfl
theorem ct_X11_costOf {Iv : xI} (hI : xm_good Iv) : xm_Ct Iv yX11_costOf (ws_ yX11_costOf cX11_costOf 4 (some .int)) 25 0 0 S_X11_costOf := xm_enter (rt := 0) (init := false) (by decide +kernel) rfl (fun h => by cases h) (Or.inl ⟨rfl, rfl⟩) (oX11_costOf hI) body_X11_costOf
theorem cv_X11_costOf {Iv : xI} {own : String} {cc : ByteArray} {fr pc idx : Nat} (hI : xm_good Iv) (hdg : decode cc pc = .ok (.invokevirtual idx, 3)) (hl : xm_ml own idx yX11_costOf) (hfr : 25 < fr) : xm_CallOK Iv own cc fr pc (pc + 3) 2 0 0 (xm_this 8 S_X11_costOf) := xm_callV 8 hI (ct_X11_costOf hI) hdg hl q2498 qs106 q145 q2499 rfl rfl (by decide +kernel) hfr (by decide)
def q_cost (G : gG) (a : Int32) : gR := g_ck G (g_isH G a) (nI 1) 0 (g_says G (g_cost G a.toNatClampNeg))
abbrev bX11_cost_0 : List xE := [(.aload_n 0, 1, 0, 0, 0), (.iconst 0, 2, 0, 0, 0), (.putfield 134, 5, 8, 0, 0), (.aload_n 0, 6, 0, 0, 0), (.aload_n 0, 7, 0, 0, 0), (.iload_n 1, 8, 0, 0, 0), (.invokevirtual 331, 11, 0, 0, 9), (.ifCond .ne 7, 14, 0, 18, 0), (.iconst 1, 15, 0, 0, 0), (.goto 4, 18, 0, 19, 0)]
abbrev bX11_cost_18 : List xE := [(.iconst 0, 19, 0, 0, 0)]
abbrev bX11_cost_19 : List xE := [(.iconst 1, 20, 0, 0, 0), (.iconst 0, 21, 0, 0, 0), (.invokevirtual 249, 24, 0, 1, 9), (.ifCond .eq 5, 27, 0, 29, 0), (.iconst 0, 28, 0, 0, 0), (.ireturn, 29, 0, 0, 0)]
abbrev bX11_cost_29 : List xE := [(.aload_n 0, 30, 0, 0, 0), (.iload_n 1, 31, 0, 0, 0), (.invokevirtual 418, 34, 0, 2, 9), (.ireturn, 35, 0, 0, 0)]
abbrev kX11_cost : List (Nat × List xE) := [(0, bX11_cost_0), (18, bX11_cost_18), (19, bX11_cost_19), (29, bX11_cost_29)]
abbrev lX11_cost : List (Nat × Nat × Nat × xS) := [(2, 0, 0, xm_this 8 S_X11_isHand), (4, 0, 0, xm_this 8 S_X11_bad), (2, 0, 0, xm_this 8 S_X11_costOf)]
theorem oX11_cost_0 {Iv : xI} (hI : xm_good Iv)  : xm_okb Iv RX11 cX11_cost false 26 lX11_cost bX11_cost_0 0 := xo_0 dX11_cost_0 rfl trivial (xo_0 dX11_cost_1 rfl trivial (xo_0 dX11_cost_2 rfl (xm_fp_of (xm_fg_of (Or.inl q1955) (by decide) rfl (by decide) rfl rfl (Or.inl rfl) rfl) (by decide) rfl (Or.inl ⟨rfl, rfl⟩) rfl) (xo_0 dX11_cost_5 rfl trivial (xo_0 dX11_cost_6 rfl trivial (xo_0 dX11_cost_7 rfl trivial (xo_c rfl (cv_X11_isHand hI dX11_cost_8 (Or.inl q2304) (by decide)) (xo_0 dX11_cost_11 rfl rfl (xo_0 dX11_cost_14 rfl trivial (xo_0 dX11_cost_15 rfl rfl (xo_n))))))))))
theorem oX11_cost_18 {Iv : xI} (hI : xm_good Iv)  : xm_okb Iv RX11 cX11_cost false 26 lX11_cost bX11_cost_18 18 := xo_0 dX11_cost_18 rfl trivial (xo_n)
theorem oX11_cost_19 {Iv : xI} (hI : xm_good Iv)  : xm_okb Iv RX11 cX11_cost false 26 lX11_cost bX11_cost_19 19 := xo_0 dX11_cost_19 rfl trivial (xo_0 dX11_cost_20 rfl trivial (xo_c rfl (cv_X11_bad hI dX11_cost_21 (Or.inl q2137) (by decide)) (xo_0 dX11_cost_24 rfl rfl (xo_0 dX11_cost_27 rfl trivial (xo_0 dX11_cost_28 rfl trivial (xo_n))))))
theorem oX11_cost_29 {Iv : xI} (hI : xm_good Iv)  : xm_okb Iv RX11 cX11_cost false 26 lX11_cost bX11_cost_29 29 := xo_0 dX11_cost_29 rfl trivial (xo_0 dX11_cost_30 rfl trivial (xo_c rfl (cv_X11_costOf hI dX11_cost_31 (Or.inl q2496) (by decide)) (xo_0 dX11_cost_34 rfl trivial (xo_n))))
theorem oX11_cost {Iv : xI} (hI : xm_good Iv)  : ∀ q ∈ kX11_cost, xm_okb Iv RX11 cX11_cost false 26 lX11_cost q.2 q.1 := by
  intro q hq
  simp only [List.mem_cons, List.not_mem_nil, or_false] at hq
  rcases hq with rfl | rfl | rfl | rfl
  · exact oX11_cost_0 hI  
  · exact oX11_cost_18 hI  
  · exact oX11_cost_19 hI  
  · exact oX11_cost_29 hI  
def S_X11_cost : xS := tU fun as I Q => ∃ a, as = [.ref 0, .int a] ∧ t_good I ∧ g_need (tG I) ∧ t_P Q (q_cost (tG I) a)
theorem body_X11_cost : xm_Body 2 0 0 0 [] lX11_cost kX11_cost S_X11_cost := by
  intro X avs w Q QX hX0 hS
  have hG := xm_go [] hX0
  have hX := xm_go [] hX0
  clear hX0
  obtain ⟨I, rfl, a, rfl, hg, hnd, hQ⟩ := hS
  refine ⟨rfl, ?_⟩
  repeat' (first
    | ((with_reducible refine @And.intro (vp_in _ _) _ ?_ ?_); (· (first | with_reducible assumption | ((with_reducible refine t_vin ?_); decide) | ((with_reducible refine vp_in_nI ?_ ?_) <;> first | omega | decide) | (simp (disch := omega) only [xl_n, xl_m, nI_dec, nI_sb, nI_add, pk_mul]; (with_reducible refine vp_in_nI ?_ ?_) <;> first | omega | decide))); (conv => whnf))
    | (refine And.intro (by first | with_reducible assumption | exact (show tL _ = _ from rfl) | decide) ?_; (conv => whnf))
    | ((with_reducible refine @And.intro (_ = _) _ ?_ ?_); (· rfl); (conv => whnf))
    | ((with_reducible refine @And.intro (@LE.le Nat _ _ _) _ ?_ ?_); (· (first | exact Nat.zero_le _ | exact Nat.le_of_ble_eq_true rfl | omega)); (conv => whnf))
    | ((with_reducible refine @And.intro (@LT.lt Nat _ _ _) _ ?_ ?_); (· omega); (conv => whnf))
    | ((with_reducible refine @And.intro (∃ _, _ = _) _ ?_ ?_); (· exact ⟨_, rfl⟩); (conv => whnf))
    | ((with_reducible refine @And.intro (_ ∨ _) _ ?_ ?_); (· (first | exact Or.inl rfl | exact Or.inr rfl | exact t_b01 _ | assumption)); (conv => whnf))
    | ((with_reducible refine @And.intro (¬ (_ = _)) _ ?_ ?_); (· first | assumption | (with_reducible assumption)); (conv => whnf))
    | (refine hX _ _ _ _ _ _ ?_; (conv => whnf); fail_if_success show False)
    | fail)
  rw [t_si]
  obtain ⟨J, hJ, hg1, hG1, h01⟩ := t_pub hg
  rw [← hJ]
  rw [← hG1] at hQ hnd
  clear hJ hG1 hg I
  have hg := hg1
  have hok := hg.1
  have hl := hg.2.1
  have h8 := hok.2.2.2.1
  have h9 := hok.2.1
  (conv => whnf)
  rcases t_hc hg a with ⟨h, hh, rfl, e1, f1⟩ | ⟨e1, f1⟩
  · rw [q_cost, f1, g_ck_t, nI_clamp (by omega)] at hQ
    have hh9 : h < 9 := by omega
    repeat' (first
      | ((with_reducible refine @And.intro (vp_in _ _) _ ?_ ?_); (· (first | with_reducible assumption | ((with_reducible refine t_vin ?_); decide) | ((with_reducible refine vp_in_nI ?_ ?_) <;> first | omega | decide) | (simp (disch := omega) only [xl_n, xl_m, nI_dec, nI_sb, nI_add, pk_mul]; (with_reducible refine vp_in_nI ?_ ?_) <;> first | omega | decide))); (conv => whnf))
      | (refine And.intro (by first | with_reducible assumption | exact (show tL _ = _ from rfl) | decide) ?_; (conv => whnf))
      | ((with_reducible refine @And.intro (_ = _) _ ?_ ?_); (· rfl); (conv => whnf))
      | ((with_reducible refine @And.intro (@LE.le Nat _ _ _) _ ?_ ?_); (· (first | exact Nat.zero_le _ | exact Nat.le_of_ble_eq_true rfl | omega)); (conv => whnf))
      | ((with_reducible refine @And.intro (@LT.lt Nat _ _ _) _ ?_ ?_); (· omega); (conv => whnf))
      | ((with_reducible refine @And.intro (∃ _, _ = _) _ ?_ ?_); (· exact ⟨_, rfl⟩); (conv => whnf))
      | ((with_reducible refine @And.intro (_ ∨ _) _ ?_ ?_); (· (first | exact Or.inl rfl | exact Or.inr rfl | exact t_b01 _ | assumption)); (conv => whnf))
      | ((with_reducible refine @And.intro (¬ (_ = _)) _ ?_ ?_); (· first | assumption | (with_reducible assumption)); (conv => whnf))
      | (refine hX _ _ _ _ _ _ ?_; (conv => whnf); fail_if_success show False)
      | (rw [t_si]; (conv => whnf))
      | (refine ⟨_, rfl, ?_⟩; (conv => whnf))
      | (refine ⟨_, _, rfl, ?_⟩; (conv => whnf))
      | (refine ⟨_, _, _, rfl, ?_⟩; (conv => whnf))
      | (refine ⟨_, _, _, _, rfl, ?_⟩; (conv => whnf))
      | (rw [e1]; (conv => whnf))
      | (refine And.intro (fun c => ?_) (fun c => ?_) <;> (first | (exact absurd c (by decide +kernel)) | (conv => whnf)))
      | fail)
    intro M hM h0
    (conv => whnf)
    repeat' (first
      | ((with_reducible refine @And.intro (vp_in _ _) _ ?_ ?_); (· (first | with_reducible assumption | ((with_reducible refine t_vin ?_); decide) | ((with_reducible refine vp_in_nI ?_ ?_) <;> first | omega | decide) | (simp (disch := omega) only [xl_n, xl_m, nI_dec, nI_sb, nI_add, pk_mul]; (with_reducible refine vp_in_nI ?_ ?_) <;> first | omega | decide))); (conv => whnf))
      | (refine And.intro (by first | with_reducible assumption | exact (show tL _ = _ from rfl) | decide) ?_; (conv => whnf))
      | ((with_reducible refine @And.intro (_ = _) _ ?_ ?_); (· rfl); (conv => whnf))
      | ((with_reducible refine @And.intro (@LE.le Nat _ _ _) _ ?_ ?_); (· (first | exact Nat.zero_le _ | exact Nat.le_of_ble_eq_true rfl | omega)); (conv => whnf))
      | ((with_reducible refine @And.intro (@LT.lt Nat _ _ _) _ ?_ ?_); (· omega); (conv => whnf))
      | ((with_reducible refine @And.intro (∃ _, _ = _) _ ?_ ?_); (· exact ⟨_, rfl⟩); (conv => whnf))
      | ((with_reducible refine @And.intro (_ ∨ _) _ ?_ ?_); (· (first | exact Or.inl rfl | exact Or.inr rfl | exact t_b01 _ | assumption)); (conv => whnf))
      | ((with_reducible refine @And.intro (¬ (_ = _)) _ ?_ ?_); (· first | assumption | (with_reducible assumption)); (conv => whnf))
      | (refine hX _ _ _ _ _ _ ?_; (conv => whnf); fail_if_success show False)
      | (rw [t_si]; (conv => whnf))
      | (refine ⟨_, rfl, ?_⟩; (conv => whnf))
      | (refine ⟨_, _, rfl, ?_⟩; (conv => whnf))
      | (refine ⟨_, _, _, rfl, ?_⟩; (conv => whnf))
      | (refine ⟨_, _, _, _, rfl, ?_⟩; (conv => whnf))
      | (refine And.intro (fun c => ?_) (fun c => ?_) <;> (first | (exact absurd c (by decide +kernel)) | (conv => whnf)))
      | fail)
    exact t_ask hQ hg hM (h0.trans h01) rfl
  · rw [q_cost] at hQ
    repeat' (first
      | ((with_reducible refine @And.intro (vp_in _ _) _ ?_ ?_); (· (first | with_reducible assumption | ((with_reducible refine t_vin ?_); decide) | ((with_reducible refine vp_in_nI ?_ ?_) <;> first | omega | decide) | (simp (disch := omega) only [xl_n, xl_m, nI_dec, nI_sb, nI_add, pk_mul]; (with_reducible refine vp_in_nI ?_ ?_) <;> first | omega | decide))); (conv => whnf))
      | (refine And.intro (by first | with_reducible assumption | exact (show tL _ = _ from rfl) | decide) ?_; (conv => whnf))
      | ((with_reducible refine @And.intro (_ = _) _ ?_ ?_); (· rfl); (conv => whnf))
      | ((with_reducible refine @And.intro (@LE.le Nat _ _ _) _ ?_ ?_); (· (first | exact Nat.zero_le _ | exact Nat.le_of_ble_eq_true rfl | omega)); (conv => whnf))
      | ((with_reducible refine @And.intro (@LT.lt Nat _ _ _) _ ?_ ?_); (· omega); (conv => whnf))
      | ((with_reducible refine @And.intro (∃ _, _ = _) _ ?_ ?_); (· exact ⟨_, rfl⟩); (conv => whnf))
      | ((with_reducible refine @And.intro (_ ∨ _) _ ?_ ?_); (· (first | exact Or.inl rfl | exact Or.inr rfl | exact t_b01 _ | assumption)); (conv => whnf))
      | ((with_reducible refine @And.intro (¬ (_ = _)) _ ?_ ?_); (· first | assumption | (with_reducible assumption)); (conv => whnf))
      | (refine hX _ _ _ _ _ _ ?_; (conv => whnf); fail_if_success show False)
      | (rw [t_si]; (conv => whnf))
      | (refine ⟨_, rfl, ?_⟩; (conv => whnf))
      | (refine ⟨_, _, rfl, ?_⟩; (conv => whnf))
      | (refine ⟨_, _, _, rfl, ?_⟩; (conv => whnf))
      | (refine ⟨_, _, _, _, rfl, ?_⟩; (conv => whnf))
      | (rw [e1]; (conv => whnf))
      | (refine And.intro (fun c => ?_) (fun c => ?_) <;> (first | (exact absurd c (by decide +kernel)) | (conv => whnf)))
      | fail)
    exact t_ref' hQ hg h01 (by simp [f1]) (by decide) rfl rfl
theorem ct_X11_cost {Iv : xI} (hI : xm_good Iv) : xm_Ct Iv yX11_cost (ws_ yX11_cost cX11_cost 2 (some .int)) 26 0 0 S_X11_cost := xm_enter (rt := 0) (init := false) (by decide +kernel) rfl (fun h => by cases h) (Or.inl ⟨rfl, rfl⟩) (oX11_cost hI) body_X11_cost
theorem cv_X11_cost {Iv : xI} {own : String} {cc : ByteArray} {fr pc idx : Nat} (hI : xm_good Iv) (hdg : decode cc pc = .ok (.invokevirtual idx, 3)) (hl : xm_ml own idx yX11_cost) (hfr : 26 < fr) : xm_CallOK Iv own cc fr pc (pc + 3) 2 0 0 (xm_this 8 S_X11_cost) := xm_callV 8 hI (ct_X11_cost hI) hdg hl q2493 q2494 q145 q2495 rfl rfl (by decide +kernel) hfr (by decide)
def g_dearN (G : gG) (n : Nat) : Option Nat := t_fold n (fun h b => if (g_al (gGK G) (gnow G) h && (match b with | none => true | some z => decide (¬ g_cost G h ≤ g_cost G z))) = true then some h else b) none
theorem g_dearN_s {G : gG} {n : Nat} : g_dearN G (n + 1) = if (g_al (gGK G) (gnow G) n && (match g_dearN G n with | none => true | some z => decide (¬ g_cost G n ≤ g_cost G z))) = true then some n else g_dearN G n := rfl
theorem g_dearN_lt {G : gG} {z : Nat} : ∀ {n : Nat}, g_dearN G n = some z → z < n
  | 0, h => by cases h
  | n + 1, h => by
    rw [g_dearN_s] at h
    by_cases e : (g_al (gGK G) (gnow G) n && (match g_dearN G n with | none => true | some z => decide (¬ g_cost G n ≤ g_cost G z))) = true
    · rw [if_pos e] at h
      cases h
      omega
    · rw [if_neg e] at h
      have := g_dearN_lt (n := n) h
      omega
theorem t_o_n {o : Option Nat} (h : ∀ z, o = some z → z < 2 ^ 31) : (t_o o = nM) = (o = none) := by
  cases o with
  | none => exact propext ⟨fun _ => rfl, fun _ => rfl⟩
  | some z => exact propext ⟨fun e => absurd e (nM_ne (h z rfl)), fun e => by cases e⟩
def q_dearest (G : gG) : gR := g_says G (t_o (g_dearN G (gn (gGK G))))
abbrev bX11_dearest_0 : List xE := [(.aload_n 0, 1, 0, 0, 0), (.iconst 0, 2, 0, 0, 0), (.putfield 134, 5, 8, 0, 0), (.iconst (-1), 6, 0, 0, 0), (.istore_n 1, 7, 0, 0, 0), (.iconst 0, 8, 0, 0, 0), (.istore_n 2, 9, 0, 0, 0), (.iconst 0, 10, 0, 0, 0), (.istore_n 3, 11, 0, 0, 0)]
abbrev bX11_dearest_11 : List xE := [(.iload_n 3, 12, 0, 0, 0), (.aload_n 0, 13, 0, 0, 0), (.getfield 23, 16, 8, 12, 1), (.iconst 0, 17, 0, 0, 0), (.iaload, 18, 0, 0, 0), (.if_icmp .ge 46, 21, 0, 64, 0), (.aload_n 0, 22, 0, 0, 0), (.aload_n 0, 23, 0, 0, 0), (.getfield 91, 26, 8, 36, 1), (.iload_n 3, 27, 0, 0, 0), (.invokevirtual 320, 30, 0, 0, 9), (.ifCond .eq 28, 33, 0, 58, 0), (.iload_n 1, 34, 0, 0, 0), (.iconst (-1), 35, 0, 0, 0), (.if_icmp .eq 15, 38, 0, 50, 0), (.aload_n 0, 39, 0, 0, 0), (.iload_n 3, 40, 0, 0, 0), (.invokevirtual 418, 43, 0, 1, 9), (.iload_n 2, 44, 0, 0, 0), (.if_icmp .gt 6, 47, 0, 50, 0), (.goto 11, 50, 0, 58, 0)]
abbrev bX11_dearest_50 : List xE := [(.iload_n 3, 51, 0, 0, 0), (.istore_n 1, 52, 0, 0, 0), (.aload_n 0, 53, 0, 0, 0), (.iload_n 3, 54, 0, 0, 0), (.invokevirtual 418, 57, 0, 1, 9), (.istore_n 2, 58, 0, 0, 0)]
abbrev bX11_dearest_58 : List xE := [(.iinc 3 1, 61, 0, 0, 0), (.goto (-50), 64, 0, 11, 0)]
abbrev bX11_dearest_64 : List xE := [(.iload_n 1, 65, 0, 0, 0), (.ireturn, 66, 0, 0, 0)]
abbrev kX11_dearest : List (Nat × List xE) := [(0, bX11_dearest_0), (11, bX11_dearest_11), (50, bX11_dearest_50), (58, bX11_dearest_58), (64, bX11_dearest_64)]
abbrev lX11_dearest : List (Nat × Nat × Nat × xS) := [(3, 0, 0, xm_this 8 S_X11_isAlive), (2, 0, 0, xm_this 8 S_X11_costOf)]
theorem oX11_dearest_0 {Iv : xI} (hI : xm_good Iv)  : xm_okb Iv RX11 cX11_dearest false 26 lX11_dearest bX11_dearest_0 0 := xo_0 dX11_dearest_0 rfl trivial (xo_0 dX11_dearest_1 rfl trivial (xo_0 dX11_dearest_2 rfl (xm_fp_of (xm_fg_of (Or.inl q1955) (by decide) rfl (by decide) rfl rfl (Or.inl rfl) rfl) (by decide) rfl (Or.inl ⟨rfl, rfl⟩) rfl) (xo_0 dX11_dearest_5 rfl trivial (xo_0 dX11_dearest_6 rfl trivial (xo_0 dX11_dearest_7 rfl trivial (xo_0 dX11_dearest_8 rfl trivial (xo_0 dX11_dearest_9 rfl trivial (xo_0 dX11_dearest_10 rfl trivial (xo_n)))))))))
theorem oX11_dearest_11 {Iv : xI} (hI : xm_good Iv)  : xm_okb Iv RX11 cX11_dearest false 26 lX11_dearest bX11_dearest_11 11 := xo_0 dX11_dearest_11 rfl trivial (xo_0 dX11_dearest_12 rfl trivial (xo_1 dX11_dearest_13 rfl (xm_fg_of (Or.inl q1967) (by decide) rfl (by decide) rfl rfl (Or.inl rfl) rfl) (xo_0 dX11_dearest_16 rfl trivial (xo_0 dX11_dearest_17 rfl trivial (xo_0 dX11_dearest_18 rfl rfl (xo_0 dX11_dearest_21 rfl trivial (xo_0 dX11_dearest_22 rfl trivial (xo_1 dX11_dearest_23 rfl (xm_fg_of (Or.inl q1991) (by decide) rfl (by decide) rfl rfl (Or.inl rfl) rfl) (xo_0 dX11_dearest_26 rfl trivial (xo_c rfl (cv_X11_isAlive hI dX11_dearest_27 (Or.inl q2292) (by decide)) (xo_0 dX11_dearest_30 rfl rfl (xo_0 dX11_dearest_33 rfl trivial (xo_0 dX11_dearest_34 rfl trivial (xo_0 dX11_dearest_35 rfl rfl (xo_0 dX11_dearest_38 rfl trivial (xo_0 dX11_dearest_39 rfl trivial (xo_c rfl (cv_X11_costOf hI dX11_dearest_40 (Or.inl q2496) (by decide)) (xo_0 dX11_dearest_43 rfl trivial (xo_0 dX11_dearest_44 rfl rfl (xo_0 dX11_dearest_47 rfl rfl (xo_n)))))))))))))))))))))
theorem oX11_dearest_50 {Iv : xI} (hI : xm_good Iv)  : xm_okb Iv RX11 cX11_dearest false 26 lX11_dearest bX11_dearest_50 50 := xo_0 dX11_dearest_50 rfl trivial (xo_0 dX11_dearest_51 rfl trivial (xo_0 dX11_dearest_52 rfl trivial (xo_0 dX11_dearest_53 rfl trivial (xo_c rfl (cv_X11_costOf hI dX11_dearest_54 (Or.inl q2496) (by decide)) (xo_0 dX11_dearest_57 rfl trivial (xo_n))))))
theorem oX11_dearest_58 {Iv : xI} (hI : xm_good Iv)  : xm_okb Iv RX11 cX11_dearest false 26 lX11_dearest bX11_dearest_58 58 := xo_0 dX11_dearest_58 rfl trivial (xo_0 dX11_dearest_61 rfl rfl (xo_n))
theorem oX11_dearest_64 {Iv : xI} (hI : xm_good Iv)  : xm_okb Iv RX11 cX11_dearest false 26 lX11_dearest bX11_dearest_64 64 := xo_0 dX11_dearest_64 rfl trivial (xo_0 dX11_dearest_65 rfl trivial (xo_n))
theorem oX11_dearest {Iv : xI} (hI : xm_good Iv)  : ∀ q ∈ kX11_dearest, xm_okb Iv RX11 cX11_dearest false 26 lX11_dearest q.2 q.1 := by
  intro q hq
  simp only [List.mem_cons, List.not_mem_nil, or_false] at hq
  rcases hq with rfl | rfl | rfl | rfl | rfl
  · exact oX11_dearest_0 hI  
  · exact oX11_dearest_11 hI  
  · exact oX11_dearest_50 hI  
  · exact oX11_dearest_58 hI  
  · exact oX11_dearest_64 hI  
def S_X11_dearest : xS := tU fun as I Q => as = [.ref 0] ∧ t_good I ∧ g_need (tG I) ∧ t_P Q (q_dearest (tG I))
theorem body_X11_dearest : xm_Body 4 0 0 0 [] lX11_dearest kX11_dearest S_X11_dearest := by
  intro X avs w Q QX hX0 hS
  have hG := xm_go [] hX0
  have hX := xm_go [11] hX0
  clear hX0
  obtain ⟨I, rfl, rfl, hg, hnd, hQ⟩ := hS
  refine ⟨rfl, ?_⟩
  repeat' (first
    | ((with_reducible refine @And.intro (vp_in _ _) _ ?_ ?_); (· (first | with_reducible assumption | ((with_reducible refine t_vin ?_); decide) | ((with_reducible refine vp_in_nI ?_ ?_) <;> first | omega | decide) | (simp (disch := omega) only [xl_n, xl_m, nI_dec, nI_sb, nI_add, pk_mul]; (with_reducible refine vp_in_nI ?_ ?_) <;> first | omega | decide))); (conv => whnf))
    | (refine And.intro (by first | with_reducible assumption | exact (show tL _ = _ from rfl) | decide) ?_; (conv => whnf))
    | ((with_reducible refine @And.intro (_ = _) _ ?_ ?_); (· rfl); (conv => whnf))
    | ((with_reducible refine @And.intro (@LE.le Nat _ _ _) _ ?_ ?_); (· (first | exact Nat.zero_le _ | exact Nat.le_of_ble_eq_true rfl | omega)); (conv => whnf))
    | ((with_reducible refine @And.intro (@LT.lt Nat _ _ _) _ ?_ ?_); (· omega); (conv => whnf))
    | ((with_reducible refine @And.intro (∃ _, _ = _) _ ?_ ?_); (· exact ⟨_, rfl⟩); (conv => whnf))
    | ((with_reducible refine @And.intro (_ ∨ _) _ ?_ ?_); (· (first | exact Or.inl rfl | exact Or.inr rfl | exact t_b01 _ | assumption)); (conv => whnf))
    | ((with_reducible refine @And.intro (¬ (_ = _)) _ ?_ ?_); (· first | assumption | (with_reducible assumption)); (conv => whnf))
    | (refine hX _ _ _ _ _ _ ?_; (conv => whnf); fail_if_success show False)
    | fail)
  rw [t_si]
  obtain ⟨J, hJ, hg1, hG1, h01⟩ := t_pub hg
  rw [← hJ]
  rw [← hG1] at hQ hnd
  clear hJ hG1 hg I
  have hg := hg1
  have hok := hg.1
  have hl := hg.2.1
  have h8 := hok.2.2.2.1
  have h9 := hok.2.1
  (conv => whnf)
  have hn := hok.1
  have l1 : ∀ h, h ≤ t_h J → ∀ M most, t_sp J M → M 0 0 = nI 0 → (∀ z, g_dearN (tG J) h = some z → most = g_cost (tG J) z) → X 11 [some (.ref 0), some (.int (t_o (g_dearN (tG J) h))), some (.int most), some (.int (nI h))] [] (tW M) 0 0 := by
    refine t_for fun h h1 ih M most hM h0 hmost => ?_
    have hgM := hM.good hg
    have hokM := hgM.1
    have eG := hM.G hg
    have eK : tK M = tK J := hM.same.K hg
    have eA : tA M 36 = tA J 36 := tA_eq fun j _ => by rw [hM.1 36 (by decide) (t_nf (by omega))]
    have hn' : M 12 0 = nI (t_h J) := by rw [hM.1 12 (by decide) (t_nf (by omega))]; exact hn
    have nx := ih (h + 1) (by omega)
    clear ih
    refine hG _ _ _ _ _ _ ?_
    (conv => whnf)
    repeat' (first
      | ((with_reducible refine @And.intro (vp_in _ _) _ ?_ ?_); (· (first | with_reducible assumption | ((with_reducible refine t_vin ?_); decide) | ((with_reducible refine vp_in_nI ?_ ?_) <;> first | omega | decide) | (simp (disch := omega) only [xl_n, xl_m, nI_dec, nI_sb, nI_add, pk_mul]; (with_reducible refine vp_in_nI ?_ ?_) <;> first | omega | decide))); (conv => whnf))
      | (refine And.intro (by first | with_reducible assumption | exact (show tL _ = _ from rfl) | decide) ?_; (conv => whnf))
      | ((with_reducible refine @And.intro (_ = _) _ ?_ ?_); (· rfl); (conv => whnf))
      | ((with_reducible refine @And.intro (@LE.le Nat _ _ _) _ ?_ ?_); (· (first | exact Nat.zero_le _ | exact Nat.le_of_ble_eq_true rfl | omega)); (conv => whnf))
      | ((with_reducible refine @And.intro (@LT.lt Nat _ _ _) _ ?_ ?_); (· omega); (conv => whnf))
      | ((with_reducible refine @And.intro (∃ _, _ = _) _ ?_ ?_); (· exact ⟨_, rfl⟩); (conv => whnf))
      | ((with_reducible refine @And.intro (_ ∨ _) _ ?_ ?_); (· (first | exact Or.inl rfl | exact Or.inr rfl | exact t_b01 _ | assumption)); (conv => whnf))
      | ((with_reducible refine @And.intro (¬ (_ = _)) _ ?_ ?_); (· first | assumption | (with_reducible assumption)); (conv => whnf))
      | (refine hX _ _ _ _ _ _ ?_; (conv => whnf); fail_if_success show False)
      | (rw [t_si]; (conv => whnf))
      | (refine ⟨_, rfl, ?_⟩; (conv => whnf))
      | (refine ⟨_, _, rfl, ?_⟩; (conv => whnf))
      | (refine ⟨_, _, _, rfl, ?_⟩; (conv => whnf))
      | (refine ⟨_, _, _, _, rfl, ?_⟩; (conv => whnf))
      | fail)
    refine And.intro (fun c => ?_) (fun c => ?_) <;> (conv => whnf)
    · have : h = t_h J := Nat.le_antisymm h1 (t_kge hn' c (by omega) (by omega))
      subst this
      repeat' (first
        | ((with_reducible refine @And.intro (vp_in _ _) _ ?_ ?_); (· (first | with_reducible assumption | ((with_reducible refine t_vin ?_); decide) | ((with_reducible refine vp_in_nI ?_ ?_) <;> first | omega | decide) | (simp (disch := omega) only [xl_n, xl_m, nI_dec, nI_sb, nI_add, pk_mul]; (with_reducible refine vp_in_nI ?_ ?_) <;> first | omega | decide))); (conv => whnf))
        | (refine And.intro (by first | with_reducible assumption | exact (show tL _ = _ from rfl) | decide) ?_; (conv => whnf))
        | ((with_reducible refine @And.intro (_ = _) _ ?_ ?_); (· rfl); (conv => whnf))
        | ((with_reducible refine @And.intro (@LE.le Nat _ _ _) _ ?_ ?_); (· (first | exact Nat.zero_le _ | exact Nat.le_of_ble_eq_true rfl | omega)); (conv => whnf))
        | ((with_reducible refine @And.intro (@LT.lt Nat _ _ _) _ ?_ ?_); (· omega); (conv => whnf))
        | ((with_reducible refine @And.intro (∃ _, _ = _) _ ?_ ?_); (· exact ⟨_, rfl⟩); (conv => whnf))
        | ((with_reducible refine @And.intro (_ ∨ _) _ ?_ ?_); (· (first | exact Or.inl rfl | exact Or.inr rfl | exact t_b01 _ | assumption)); (conv => whnf))
        | ((with_reducible refine @And.intro (¬ (_ = _)) _ ?_ ?_); (· first | assumption | (with_reducible assumption)); (conv => whnf))
        | (refine hX _ _ _ _ _ _ ?_; (conv => whnf); fail_if_success show False)
        | (rw [t_si]; (conv => whnf))
        | (refine ⟨_, rfl, ?_⟩; (conv => whnf))
        | (refine ⟨_, _, rfl, ?_⟩; (conv => whnf))
        | (refine ⟨_, _, _, rfl, ?_⟩; (conv => whnf))
        | (refine ⟨_, _, _, _, rfl, ?_⟩; (conv => whnf))
        | (refine And.intro (fun c => ?_) (fun c => ?_) <;> (first | (exact absurd c (by decide +kernel)) | (conv => whnf)))
        | fail)
      exact t_ask hQ hg hM h0 rfl
    · have hh : h < t_h J := t_klt hn' c (by omega)
      have hhM : h < t_h M := by
        rw [t_h_eq (hM.1 12 (by decide) (t_nf (by omega)))]
        exact hh
      have hh9 : h < 9 := by omega
      have hndM : g_need (tG M) := by rw [eG]; exact hnd
      have stay : ∀ L, t_sp J L → L 0 0 = nI 0 → (g_al (gGK (tG J)) (gnow (tG J)) h && (match g_dearN (tG J) h with | none => true | some z => decide (¬ g_cost (tG J) h ≤ g_cost (tG J) z))) = false → X 11 [some (.ref 0), some (.int (t_o (g_dearN (tG J) h))), some (.int most), some (.int (nI (h + 1)))] [] (tW L) 0 0 := fun L hL h0L e => by
        have := nx (by omega) L most hL h0L
        rw [g_dearN_s, e] at this
        exact this hmost
      have new : ∀ L, t_sp J L → L 0 0 = nI 0 → (g_al (gGK (tG J)) (gnow (tG J)) h && (match g_dearN (tG J) h with | none => true | some z => decide (¬ g_cost (tG J) h ≤ g_cost (tG J) z))) = true → X 11 [some (.ref 0), some (.int (nI h)), some (.int (g_cost (tG J) h)), some (.int (nI (h + 1)))] [] (tW L) 0 0 := fun L hL h0L e => by
        have := nx (by omega) L (g_cost (tG J) h) hL h0L
        rw [g_dearN_s, if_pos e] at this
        exact this (fun z hz => by cases hz; rfl)
      clear nx
      have on := t_o_n (o := g_dearN (tG J) h) (fun z hz => by have := g_dearN_lt hz; omega)
      have eal : g_al (tK M) (tA M 36) h = g_al (gGK (tG J)) (gnow (tG J)) h := by rw [eK, eA]; rfl
      repeat' (first
        | ((with_reducible refine @And.intro (vp_in _ _) _ ?_ ?_); (· (first | with_reducible assumption | ((with_reducible refine t_vin ?_); decide) | ((with_reducible refine vp_in_nI ?_ ?_) <;> first | omega | decide) | (simp (disch := omega) only [xl_n, xl_m, nI_dec, nI_sb, nI_add, pk_mul]; (with_reducible refine vp_in_nI ?_ ?_) <;> first | omega | decide))); (conv => whnf))
        | (refine And.intro (by first | with_reducible assumption | exact (show tL _ = _ from rfl) | decide) ?_; (conv => whnf))
        | ((with_reducible refine @And.intro (_ = _) _ ?_ ?_); (· rfl); (conv => whnf))
        | ((with_reducible refine @And.intro (@LE.le Nat _ _ _) _ ?_ ?_); (· (first | exact Nat.zero_le _ | exact Nat.le_of_ble_eq_true rfl | omega)); (conv => whnf))
        | ((with_reducible refine @And.intro (@LT.lt Nat _ _ _) _ ?_ ?_); (· omega); (conv => whnf))
        | ((with_reducible refine @And.intro (∃ _, _ = _) _ ?_ ?_); (· exact ⟨_, rfl⟩); (conv => whnf))
        | ((with_reducible refine @And.intro (_ ∨ _) _ ?_ ?_); (· (first | exact Or.inl rfl | exact Or.inr rfl | exact t_b01 _ | assumption)); (conv => whnf))
        | ((with_reducible refine @And.intro (¬ (_ = _)) _ ?_ ?_); (· first | assumption | (with_reducible assumption)); (conv => whnf))
        | (refine hX _ _ _ _ _ _ ?_; (conv => whnf); fail_if_success show False)
        | (rw [t_si]; (conv => whnf))
        | (refine ⟨_, rfl, ?_⟩; (conv => whnf))
        | (refine ⟨_, _, rfl, ?_⟩; (conv => whnf))
        | (refine ⟨_, _, _, rfl, ?_⟩; (conv => whnf))
        | (refine ⟨_, _, _, _, rfl, ?_⟩; (conv => whnf))
        | (refine And.intro (fun c => ?_) (fun c => ?_) <;> (first | (exact absurd c (by decide +kernel)) | (conv => whnf)))
        | fail)
      · have c1 : t_b (g_al (tK M) (tA M 36) h) = 0 := by assumption
        rw [t_b0, eal] at c1
        have := stay M hM h0 (by rw [c1]; rfl)
        clear stay new hX hG hQ
        simp (disch := omega) only [xl_n, xl_m, nI_dec, nI_sb, xl_0, xl_1, tW_i, t_bn0, t_bn1, Classical.not_not, t_lt, nI_add, nI_1, pk_mul, nI_clamp, t_si, nI_eq, nI_leI, nM_ne, nM_ne, xm_set, xm_lv0, xm_psh] at *
        exact this
      · have c1 : ¬ t_b (g_al (tK M) (tA M 36) h) = 0 := by assumption
        have c2 : t_o (g_dearN (tG J) h) = Int32.ofInt (-1) := by assumption
        rw [t_b0, eal, Bool.not_eq_false] at c1
        rw [xl_m, on] at c2
        intro L hL h0L
        rw [eG]
        have := new L (hM.tr hL) (h0L.trans h0) (by rw [c1, c2]; rfl)
        clear stay new
        (conv => whnf)
        repeat' (first
          | ((with_reducible refine @And.intro (vp_in _ _) _ ?_ ?_); (· (first | with_reducible assumption | ((with_reducible refine t_vin ?_); decide) | ((with_reducible refine vp_in_nI ?_ ?_) <;> first | omega | decide) | (simp (disch := omega) only [xl_n, xl_m, nI_dec, nI_sb, nI_add, pk_mul]; (with_reducible refine vp_in_nI ?_ ?_) <;> first | omega | decide))); (conv => whnf))
          | (refine And.intro (by first | with_reducible assumption | exact (show tL _ = _ from rfl) | decide) ?_; (conv => whnf))
          | ((with_reducible refine @And.intro (_ = _) _ ?_ ?_); (· rfl); (conv => whnf))
          | ((with_reducible refine @And.intro (@LE.le Nat _ _ _) _ ?_ ?_); (· (first | exact Nat.zero_le _ | exact Nat.le_of_ble_eq_true rfl | omega)); (conv => whnf))
          | ((with_reducible refine @And.intro (@LT.lt Nat _ _ _) _ ?_ ?_); (· omega); (conv => whnf))
          | ((with_reducible refine @And.intro (∃ _, _ = _) _ ?_ ?_); (· exact ⟨_, rfl⟩); (conv => whnf))
          | ((with_reducible refine @And.intro (_ ∨ _) _ ?_ ?_); (· (first | exact Or.inl rfl | exact Or.inr rfl | exact t_b01 _ | assumption)); (conv => whnf))
          | ((with_reducible refine @And.intro (¬ (_ = _)) _ ?_ ?_); (· first | assumption | (with_reducible assumption)); (conv => whnf))
          | (refine hX _ _ _ _ _ _ ?_; (conv => whnf); fail_if_success show False)
          | (rw [t_si]; (conv => whnf))
          | (refine ⟨_, rfl, ?_⟩; (conv => whnf))
          | (refine ⟨_, _, rfl, ?_⟩; (conv => whnf))
          | (refine ⟨_, _, _, rfl, ?_⟩; (conv => whnf))
          | (refine ⟨_, _, _, _, rfl, ?_⟩; (conv => whnf))
          | (refine And.intro (fun c => ?_) (fun c => ?_) <;> (first | (exact absurd c (by decide +kernel)) | (conv => whnf)))
          | fail)
        clear hX hG hQ
        simp (disch := omega) only [xl_n, xl_m, nI_dec, nI_sb, xl_0, xl_1, tW_i, t_bn0, t_bn1, Classical.not_not, t_lt, nI_add, nI_1, pk_mul, nI_clamp, t_si, nI_eq, nI_leI, nM_ne, nM_ne, xm_set, xm_lv0, xm_psh] at *
        exact this
      · have c1 : ¬ t_b (g_al (tK M) (tA M 36) h) = 0 := by assumption
        have c2 : ¬ t_o (g_dearN (tG J) h) = Int32.ofInt (-1) := by assumption
        rw [t_b0, eal, Bool.not_eq_false] at c1
        rw [xl_m, on] at c2
        obtain ⟨z, hz⟩ : ∃ z, g_dearN (tG J) h = some z := by
          cases e : g_dearN (tG J) h with
          | none => exact absurd e c2
          | some z => exact ⟨z, rfl⟩
        have em := hmost z hz
        intro L hL h0L
        rw [eG]
        have hL2 := hM.tr hL
        have hgL := hL2.good hg
        have eGL := hL2.G hg
        have hndL : g_need (tG L) := by rw [eGL]; exact hnd
        have stay1 := stay L hL2 (h0L.trans h0)
        (conv => whnf)
        repeat' (first
          | ((with_reducible refine @And.intro (vp_in _ _) _ ?_ ?_); (· (first | with_reducible assumption | ((with_reducible refine t_vin ?_); decide) | ((with_reducible refine vp_in_nI ?_ ?_) <;> first | omega | decide) | (simp (disch := omega) only [xl_n, xl_m, nI_dec, nI_sb, nI_add, pk_mul]; (with_reducible refine vp_in_nI ?_ ?_) <;> first | omega | decide))); (conv => whnf))
          | (refine And.intro (by first | with_reducible assumption | exact (show tL _ = _ from rfl) | decide) ?_; (conv => whnf))
          | ((with_reducible refine @And.intro (_ = _) _ ?_ ?_); (· rfl); (conv => whnf))
          | ((with_reducible refine @And.intro (@LE.le Nat _ _ _) _ ?_ ?_); (· (first | exact Nat.zero_le _ | exact Nat.le_of_ble_eq_true rfl | omega)); (conv => whnf))
          | ((with_reducible refine @And.intro (@LT.lt Nat _ _ _) _ ?_ ?_); (· omega); (conv => whnf))
          | ((with_reducible refine @And.intro (∃ _, _ = _) _ ?_ ?_); (· exact ⟨_, rfl⟩); (conv => whnf))
          | ((with_reducible refine @And.intro (_ ∨ _) _ ?_ ?_); (· (first | exact Or.inl rfl | exact Or.inr rfl | exact t_b01 _ | assumption)); (conv => whnf))
          | ((with_reducible refine @And.intro (¬ (_ = _)) _ ?_ ?_); (· first | assumption | (with_reducible assumption)); (conv => whnf))
          | (refine hX _ _ _ _ _ _ ?_; (conv => whnf); fail_if_success show False)
          | (rw [t_si]; (conv => whnf))
          | (refine ⟨_, rfl, ?_⟩; (conv => whnf))
          | (refine ⟨_, _, rfl, ?_⟩; (conv => whnf))
          | (refine ⟨_, _, _, rfl, ?_⟩; (conv => whnf))
          | (refine ⟨_, _, _, _, rfl, ?_⟩; (conv => whnf))
          | (refine And.intro (fun c => ?_) (fun c => ?_) <;> (first | (exact absurd c (by decide +kernel)) | (conv => whnf)))
          | fail)
        · have c3 : most < g_cost (tG J) h := by assumption
          intro N hN h0N
          rw [eGL]
          have := new N (hL2.tr hN) (h0N.trans (h0L.trans h0)) (by
            rw [c1, hz]
            show (true && decide (¬ g_cost (tG J) h ≤ g_cost (tG J) z)) = true
            rw [← em, decide_eq_true (Int32.not_le.mpr c3)]
            rfl)
          clear stay new stay1
          (conv => whnf)
          repeat' (first
            | ((with_reducible refine @And.intro (vp_in _ _) _ ?_ ?_); (· (first | with_reducible assumption | ((with_reducible refine t_vin ?_); decide) | ((with_reducible refine vp_in_nI ?_ ?_) <;> first | omega | decide) | (simp (disch := omega) only [xl_n, xl_m, nI_dec, nI_sb, nI_add, pk_mul]; (with_reducible refine vp_in_nI ?_ ?_) <;> first | omega | decide))); (conv => whnf))
            | (refine And.intro (by first | with_reducible assumption | exact (show tL _ = _ from rfl) | decide) ?_; (conv => whnf))
            | ((with_reducible refine @And.intro (_ = _) _ ?_ ?_); (· rfl); (conv => whnf))
            | ((with_reducible refine @And.intro (@LE.le Nat _ _ _) _ ?_ ?_); (· (first | exact Nat.zero_le _ | exact Nat.le_of_ble_eq_true rfl | omega)); (conv => whnf))
            | ((with_reducible refine @And.intro (@LT.lt Nat _ _ _) _ ?_ ?_); (· omega); (conv => whnf))
            | ((with_reducible refine @And.intro (∃ _, _ = _) _ ?_ ?_); (· exact ⟨_, rfl⟩); (conv => whnf))
            | ((with_reducible refine @And.intro (_ ∨ _) _ ?_ ?_); (· (first | exact Or.inl rfl | exact Or.inr rfl | exact t_b01 _ | assumption)); (conv => whnf))
            | ((with_reducible refine @And.intro (¬ (_ = _)) _ ?_ ?_); (· first | assumption | (with_reducible assumption)); (conv => whnf))
            | (refine hX _ _ _ _ _ _ ?_; (conv => whnf); fail_if_success show False)
            | (rw [t_si]; (conv => whnf))
            | (refine ⟨_, rfl, ?_⟩; (conv => whnf))
            | (refine ⟨_, _, rfl, ?_⟩; (conv => whnf))
            | (refine ⟨_, _, _, rfl, ?_⟩; (conv => whnf))
            | (refine ⟨_, _, _, _, rfl, ?_⟩; (conv => whnf))
            | (refine And.intro (fun c => ?_) (fun c => ?_) <;> (first | (exact absurd c (by decide +kernel)) | (conv => whnf)))
            | fail)
          clear hX hG hQ
          simp (disch := omega) only [xl_n, xl_m, nI_dec, nI_sb, xl_0, xl_1, tW_i, t_bn0, t_bn1, Classical.not_not, t_lt, nI_add, nI_1, pk_mul, nI_clamp, t_si, nI_eq, nI_leI, nM_ne, nM_ne, xm_set, xm_lv0, xm_psh] at *
          exact this
        · have c3 : ¬ most < g_cost (tG J) h := by assumption
          have := stay1 (by
            rw [c1, hz]
            show (true && decide (¬ g_cost (tG J) h ≤ g_cost (tG J) z)) = false
            rw [← em, decide_eq_false (fun q => c3 (Int32.not_le.mp q))]
            rfl)
          clear stay new stay1 hX hG hQ
          simp (disch := omega) only [xl_n, xl_m, nI_dec, nI_sb, xl_0, xl_1, tW_i, t_bn0, t_bn1, Classical.not_not, t_lt, nI_add, nI_1, pk_mul, nI_clamp, t_si, nI_eq, nI_leI, nM_ne, nM_ne, xm_set, xm_lv0, xm_psh] at *
          exact this
  repeat' (first
    | ((with_reducible refine @And.intro (vp_in _ _) _ ?_ ?_); (· (first | with_reducible assumption | ((with_reducible refine t_vin ?_); decide) | ((with_reducible refine vp_in_nI ?_ ?_) <;> first | omega | decide) | (simp (disch := omega) only [xl_n, xl_m, nI_dec, nI_sb, nI_add, pk_mul]; (with_reducible refine vp_in_nI ?_ ?_) <;> first | omega | decide))); (conv => whnf))
    | (refine And.intro (by first | with_reducible assumption | exact (show tL _ = _ from rfl) | decide) ?_; (conv => whnf))
    | ((with_reducible refine @And.intro (_ = _) _ ?_ ?_); (· rfl); (conv => whnf))
    | ((with_reducible refine @And.intro (@LE.le Nat _ _ _) _ ?_ ?_); (· (first | exact Nat.zero_le _ | exact Nat.le_of_ble_eq_true rfl | omega)); (conv => whnf))
    | ((with_reducible refine @And.intro (@LT.lt Nat _ _ _) _ ?_ ?_); (· omega); (conv => whnf))
    | ((with_reducible refine @And.intro (∃ _, _ = _) _ ?_ ?_); (· exact ⟨_, rfl⟩); (conv => whnf))
    | ((with_reducible refine @And.intro (_ ∨ _) _ ?_ ?_); (· (first | exact Or.inl rfl | exact Or.inr rfl | exact t_b01 _ | assumption)); (conv => whnf))
    | ((with_reducible refine @And.intro (¬ (_ = _)) _ ?_ ?_); (· first | assumption | (with_reducible assumption)); (conv => whnf))
    | (refine hX _ _ _ _ _ _ ?_; (conv => whnf); fail_if_success show False)
    | (rw [t_si]; (conv => whnf))
    | (refine ⟨_, rfl, ?_⟩; (conv => whnf))
    | (refine ⟨_, _, rfl, ?_⟩; (conv => whnf))
    | (refine ⟨_, _, _, rfl, ?_⟩; (conv => whnf))
    | (refine ⟨_, _, _, _, rfl, ?_⟩; (conv => whnf))
    | (refine And.intro (fun c => ?_) (fun c => ?_) <;> (first | (exact absurd c (by decide +kernel)) | (conv => whnf)))
    | fail)
  exact l1 0 (Nat.zero_le _) J _ t_sp.rf h01 (fun z hz => by cases hz)
theorem ct_X11_dearest {Iv : xI} (hI : xm_good Iv) : xm_Ct Iv yX11_dearest (ws_ yX11_dearest cX11_dearest 4 (some .int)) 26 0 0 S_X11_dearest := xm_enter (rt := 0) (init := false) (by decide +kernel) rfl (fun h => by cases h) (Or.inl ⟨rfl, rfl⟩) (oX11_dearest hI) body_X11_dearest
theorem cv_X11_dearest {Iv : xI} {own : String} {cc : ByteArray} {fr pc idx : Nat} (hI : xm_good Iv) (hdg : decode cc pc = .ok (.invokevirtual idx, 3)) (hl : xm_ml own idx yX11_dearest) (hfr : 26 < fr) : xm_CallOK Iv own cc fr pc (pc + 3) 1 0 0 (xm_this 8 S_X11_dearest) := xm_callV 8 hI (ct_X11_dearest hI) hdg hl q2501 q2502 q145 q2503 rfl rfl (by decide +kernel) hfr (by decide)
