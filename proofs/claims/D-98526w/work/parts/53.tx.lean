/-! ===== the reference: practise ===== -/
set_option maxRecDepth 100000
def g_prac (G : gG) (h p n : Nat) : Int32 := t_fold n (fun j f => if g_chosen (g_limpK (gGK G) h (nI (9 - j))) (gnow G) p = some h then nI (9 - j) else f) nM
theorem g_prac_s {G : gG} {h p n : Nat} : g_prac G h p (n + 1) = if g_chosen (g_limpK (gGK G) h (nI (9 - n))) (gnow G) p = some h then nI (9 - n) else g_prac G h p n := rfl
def q_practise (G : gG) (a b : Int32) : gR := g_ck G (g_isH G a && g_isP G b) (nI 1) 0 (g_says G (g_prac G a.toNatClampNeg b.toNatClampNeg 10))
def t_down (k : Nat) : Int32 := if k ≤ 9 then nI (9 - k) else nM
theorem t_o_eq {o : Option Nat} {h : Nat} (hh : h < 100) (ho : ∀ z, o = some z → z < 100) : (t_o o = nI h) = (o = some h) := by
  cases o with
  | none => simp [t_o, nM_ne' (show h < 2 ^ 31 by omega)]
  | some z =>
    have := ho z rfl
    simp [t_o, nI_eq (show z < 2 ^ 31 by omega) (show h < 2 ^ 31 by omega)]
abbrev bX11_practise_0 : List xE := [(.aload_n 0, 1, 0, 0, 0), (.iconst 0, 2, 0, 0, 0), (.putfield 134, 5, 8, 0, 0), (.aload_n 0, 6, 0, 0, 0), (.aload_n 0, 7, 0, 0, 0), (.iload_n 1, 8, 0, 0, 0), (.invokevirtual 331, 11, 0, 0, 9), (.ifCond .eq 11, 14, 0, 22, 0), (.aload_n 0, 15, 0, 0, 0), (.iload_n 2, 16, 0, 0, 0), (.invokevirtual 338, 19, 0, 1, 9), (.ifCond .ne 7, 22, 0, 26, 0)]
abbrev bX11_practise_22 : List xE := [(.iconst 1, 23, 0, 0, 0), (.goto 4, 26, 0, 27, 0)]
abbrev bX11_practise_26 : List xE := [(.iconst 0, 27, 0, 0, 0)]
abbrev bX11_practise_27 : List xE := [(.iconst 1, 28, 0, 0, 0), (.iconst 0, 29, 0, 0, 0), (.invokevirtual 249, 32, 0, 2, 9), (.ifCond .eq 5, 35, 0, 37, 0), (.iconst 0, 36, 0, 0, 0), (.ireturn, 37, 0, 0, 0)]
abbrev bX11_practise_37 : List xE := [(.aload_n 0, 38, 0, 0, 0), (.getfield 49, 41, 8, 20, 1), (.iload_n 1, 42, 0, 0, 0), (.aaload, 43, 0, 0, 0), (.iconst 0, 44, 0, 0, 0), (.iaload, 45, 0, 0, 0), (.istore_n 3, 46, 0, 0, 0), (.iconst (-1), 47, 0, 0, 0), (.istore 4, 49, 0, 0, 0), (.bipush 9, 51, 0, 0, 0), (.istore 5, 53, 0, 0, 0)]
abbrev bX11_practise_53 : List xE := [(.iload 5, 55, 0, 0, 0), (.ifCond .lt 41, 58, 0, 96, 0), (.aload_n 0, 59, 0, 0, 0), (.getfield 49, 62, 8, 20, 1), (.iload_n 1, 63, 0, 0, 0), (.aaload, 64, 0, 0, 0), (.iconst 0, 65, 0, 0, 0), (.iload 5, 67, 0, 0, 0), (.iastore, 68, 0, 0, 0), (.aload_n 0, 69, 0, 0, 0), (.aload_n 0, 70, 0, 0, 0), (.getfield 91, 73, 8, 36, 1), (.iload_n 2, 74, 0, 0, 0), (.invokevirtual 364, 77, 0, 3, 9), (.iload_n 1, 78, 0, 0, 0), (.if_icmp .ne 8, 81, 0, 86, 0), (.iload 5, 83, 0, 0, 0), (.goto 5, 86, 0, 88, 0)]
abbrev bX11_practise_86 : List xE := [(.iload 4, 88, 0, 0, 0)]
abbrev bX11_practise_88 : List xE := [(.istore 4, 90, 0, 0, 0), (.iinc 5 (-1), 93, 0, 0, 0), (.goto (-40), 96, 0, 53, 0)]
abbrev bX11_practise_96 : List xE := [(.aload_n 0, 97, 0, 0, 0), (.getfield 49, 100, 8, 20, 1), (.iload_n 1, 101, 0, 0, 0), (.aaload, 102, 0, 0, 0), (.iconst 0, 103, 0, 0, 0), (.iload_n 3, 104, 0, 0, 0), (.iastore, 105, 0, 0, 0), (.iload 4, 107, 0, 0, 0), (.ireturn, 108, 0, 0, 0)]
abbrev kX11_practise : List (Nat × List xE) := [(0, bX11_practise_0), (22, bX11_practise_22), (26, bX11_practise_26), (27, bX11_practise_27), (37, bX11_practise_37), (53, bX11_practise_53), (86, bX11_practise_86), (88, bX11_practise_88), (96, bX11_practise_96)]
abbrev lX11_practise : List (Nat × Nat × Nat × xS) := [(2, 0, 0, xm_this 8 S_X11_isHand), (2, 0, 0, xm_this 8 S_X11_isPuppet), (4, 0, 0, xm_this 8 S_X11_bad), (3, 0, 0, xm_this 8 S_X11_chosen)]
theorem oX11_practise_0 {Iv : xI} (hI : xm_good Iv)  : xm_okb Iv RX11 cX11_practise false 6 lX11_practise bX11_practise_0 0 := xo_0 dX11_practise_0 rfl trivial (xo_0 dX11_practise_1 rfl trivial (xo_0 dX11_practise_2 rfl (xm_fp_of (xm_fg_of (Or.inl q1955) (by decide) rfl (by decide) rfl rfl (Or.inl rfl) rfl) (by decide) rfl (Or.inl ⟨rfl, rfl⟩) rfl) (xo_0 dX11_practise_5 rfl trivial (xo_0 dX11_practise_6 rfl trivial (xo_0 dX11_practise_7 rfl trivial (xo_c rfl (cv_X11_isHand hI dX11_practise_8 (Or.inl q2304) (by decide)) (xo_0 dX11_practise_11 rfl rfl (xo_0 dX11_practise_14 rfl trivial (xo_0 dX11_practise_15 rfl trivial (xo_c rfl (cv_X11_isPuppet hI dX11_practise_16 (Or.inl q2319) (by decide)) (xo_0 dX11_practise_19 rfl rfl (xo_n))))))))))))
theorem oX11_practise_22 {Iv : xI} (hI : xm_good Iv)  : xm_okb Iv RX11 cX11_practise false 6 lX11_practise bX11_practise_22 22 := xo_0 dX11_practise_22 rfl trivial (xo_0 dX11_practise_23 rfl rfl (xo_n))
theorem oX11_practise_26 {Iv : xI} (hI : xm_good Iv)  : xm_okb Iv RX11 cX11_practise false 6 lX11_practise bX11_practise_26 26 := xo_0 dX11_practise_26 rfl trivial (xo_n)
theorem oX11_practise_27 {Iv : xI} (hI : xm_good Iv)  : xm_okb Iv RX11 cX11_practise false 6 lX11_practise bX11_practise_27 27 := xo_0 dX11_practise_27 rfl trivial (xo_0 dX11_practise_28 rfl trivial (xo_c rfl (cv_X11_bad hI dX11_practise_29 (Or.inl q2137) (by decide)) (xo_0 dX11_practise_32 rfl rfl (xo_0 dX11_practise_35 rfl trivial (xo_0 dX11_practise_36 rfl trivial (xo_n))))))
theorem oX11_practise_37 {Iv : xI} (hI : xm_good Iv)  : xm_okb Iv RX11 cX11_practise false 6 lX11_practise bX11_practise_37 37 := xo_0 dX11_practise_37 rfl trivial (xo_1 dX11_practise_38 rfl (xm_fg_of (Or.inl q1975) (by decide) rfl (by decide) rfl rfl (Or.inl rfl) rfl) (xo_0 dX11_practise_41 rfl trivial (xo_0 dX11_practise_42 rfl trivial (xo_0 dX11_practise_43 rfl trivial (xo_0 dX11_practise_44 rfl trivial (xo_0 dX11_practise_45 rfl trivial (xo_0 dX11_practise_46 rfl trivial (xo_0 dX11_practise_47 rfl trivial (xo_0 dX11_practise_49 rfl (xo_bipush (by decide +kernel)) (xo_0 dX11_practise_51 rfl trivial (xo_n)))))))))))
theorem oX11_practise_53 {Iv : xI} (hI : xm_good Iv)  : xm_okb Iv RX11 cX11_practise false 6 lX11_practise bX11_practise_53 53 := xo_0 dX11_practise_53 rfl trivial (xo_0 dX11_practise_55 rfl rfl (xo_0 dX11_practise_58 rfl trivial (xo_1 dX11_practise_59 rfl (xm_fg_of (Or.inl q1975) (by decide) rfl (by decide) rfl rfl (Or.inl rfl) rfl) (xo_0 dX11_practise_62 rfl trivial (xo_0 dX11_practise_63 rfl trivial (xo_0 dX11_practise_64 rfl trivial (xo_0 dX11_practise_65 rfl trivial (xo_0 dX11_practise_67 rfl trivial (xo_0 dX11_practise_68 rfl trivial (xo_0 dX11_practise_69 rfl trivial (xo_1 dX11_practise_70 rfl (xm_fg_of (Or.inl q1991) (by decide) rfl (by decide) rfl rfl (Or.inl rfl) rfl) (xo_0 dX11_practise_73 rfl trivial (xo_c rfl (cv_X11_chosen hI dX11_practise_74 (Or.inl q2362) (by decide)) (xo_0 dX11_practise_77 rfl trivial (xo_0 dX11_practise_78 rfl rfl (xo_0 dX11_practise_81 rfl trivial (xo_0 dX11_practise_83 rfl rfl (xo_n))))))))))))))))))
theorem oX11_practise_86 {Iv : xI} (hI : xm_good Iv)  : xm_okb Iv RX11 cX11_practise false 6 lX11_practise bX11_practise_86 86 := xo_0 dX11_practise_86 rfl trivial (xo_n)
theorem oX11_practise_88 {Iv : xI} (hI : xm_good Iv)  : xm_okb Iv RX11 cX11_practise false 6 lX11_practise bX11_practise_88 88 := xo_0 dX11_practise_88 rfl trivial (xo_0 dX11_practise_90 rfl trivial (xo_0 dX11_practise_93 rfl rfl (xo_n)))
theorem oX11_practise_96 {Iv : xI} (hI : xm_good Iv)  : xm_okb Iv RX11 cX11_practise false 6 lX11_practise bX11_practise_96 96 := xo_0 dX11_practise_96 rfl trivial (xo_1 dX11_practise_97 rfl (xm_fg_of (Or.inl q1975) (by decide) rfl (by decide) rfl rfl (Or.inl rfl) rfl) (xo_0 dX11_practise_100 rfl trivial (xo_0 dX11_practise_101 rfl trivial (xo_0 dX11_practise_102 rfl trivial (xo_0 dX11_practise_103 rfl trivial (xo_0 dX11_practise_104 rfl trivial (xo_0 dX11_practise_105 rfl trivial (xo_0 dX11_practise_107 rfl trivial (xo_n)))))))))
theorem oX11_practise {Iv : xI} (hI : xm_good Iv)  : ∀ q ∈ kX11_practise, xm_okb Iv RX11 cX11_practise false 6 lX11_practise q.2 q.1 := by
  intro q hq
  simp only [List.mem_cons, List.not_mem_nil, or_false] at hq
  rcases hq with rfl | rfl | rfl | rfl | rfl | rfl | rfl | rfl | rfl
  · exact oX11_practise_0 hI  
  · exact oX11_practise_22 hI  
  · exact oX11_practise_26 hI  
  · exact oX11_practise_27 hI  
  · exact oX11_practise_37 hI  
  · exact oX11_practise_53 hI  
  · exact oX11_practise_86 hI  
  · exact oX11_practise_88 hI  
  · exact oX11_practise_96 hI  
def S_X11_practise : xS := tU fun as I Q => ∃ a b, as = [.ref 0, .int a, .int b] ∧ t_good I ∧ t_P Q (q_practise (tG I) a b)
theorem body_X11_practise : xm_Body 6 0 0 0 [] lX11_practise kX11_practise S_X11_practise := by
  intro X avs w Q QX hX0 hS
  have hG := xm_go [] hX0
  have hX := xm_go [53] hX0
  clear hX0
  obtain ⟨I, rfl, a, b, rfl, hg, hQ⟩ := hS
  refine ⟨rfl, ?_⟩
  repeat' (first
    | ((with_reducible refine @And.intro (vp_in _ _) _ ?_ ?_); (· (first | with_reducible assumption | ((with_reducible refine t_vin ?_); decide) | ((with_reducible refine vp_in_nI ?_ ?_) <;> first | omega | decide) | (simp (disch := omega) only [xl_n, xl_m, nI_dec, nI_sb, nI_add, pk_mul]; (with_reducible refine vp_in_nI ?_ ?_) <;> first | omega | decide))); (conv => whnf))
    | (refine And.intro (by first | with_reducible assumption | exact (show tL _ = _ from rfl) | decide) ?_; (conv => whnf))
    | ((with_reducible refine @And.intro (_ = _) _ ?_ ?_); (· rfl); (conv => whnf))
    | ((with_reducible refine @And.intro (@LE.le Nat _ _ _) _ ?_ ?_); (· (first | exact Nat.zero_le _ | exact Nat.le_of_ble_eq_true rfl | omega)); (conv => whnf))
    | ((with_reducible refine @And.intro (@LT.lt Nat _ _ _) _ ?_ ?_); (· omega); (conv => whnf))
    | ((with_reducible refine @And.intro (∃ _, _ = _) _ ?_ ?_); (· exact ⟨_, rfl⟩); (conv => whnf))
    | ((with_reducible refine @And.intro (_ ∨ _) _ ?_ ?_); (· (first | exact Or.inl rfl | exact Or.inr rfl | exact t_b01 _ | assumption)); (conv => whnf))
    | ((with_reducible refine @And.intro (¬ (_ = _)) _ ?_ ?_); (· first | assumption | (with_reducible assumption)); (conv => whnf))
    | (refine hX _ _ _ _ _ _ ?_; (conv => whnf); fail_if_success show False)
    | fail)
  rw [t_si]
  obtain ⟨J, hJ, hg1, hG1, h01⟩ := t_pub hg
  rw [← hJ]
  rw [← hG1] at hQ
  clear hJ hG1 hg I
  have hg := hg1
  have hok := hg.1
  have hl := hg.2.1
  have h8 := hok.2.2.2.1
  have h9 := hok.2.1
  (conv => whnf)
  rcases t_hc hg a with ⟨h, hh, rfl, e1, f1⟩ | ⟨e1, f1⟩
  · rcases t_pc hg b with ⟨p, hp, rfl, e2, f2⟩ | ⟨e2, f2⟩
    · rw [q_practise, f1, f2, nI_clamp (by omega), nI_clamp (by omega)] at hQ
      have nf : ¬ t_free (110 + h) := t_nf (by omega)
      have loop : ∀ k, k ≤ 10 → ∀ M w, t_sp (xm_u2 J (110 + h) 0 w) M → M 0 0 = nI 0 → X 53 [some (.ref 0), some (.int (nI h)), some (.int (nI p)), some (.int (J (110 + h) 0)), some (.int (g_prac (tG J) h p k)), some (.int (t_down k))] [] (tW M) 0 0 := by
        refine t_for fun k h1 ih M w hM h0 => ?_
        rcases Nat.lt_or_ge k 10 with k9 | k9
        · have ed : t_down k = nI (9 - k) := if_pos (by omega)
          have en : t_down (k + 1) = nI (9 - k) + nM := by
            unfold t_down
            by_cases q : k = 9
            · subst q
              decide +kernel
            · rw [if_pos (by omega), show 9 - k = (9 - (k + 1)) + 1 by omega, nI_dec]
          rw [ed]
          have nx := fun L => ih (k + 1) (by omega) (by omega) L (nI (9 - k))
          rw [en, g_prac_s] at nx
          clear ih
          refine hG _ _ _ _ _ _ ?_
          (conv => whnf)
          repeat' (first
            | ((with_reducible refine @And.intro (vp_in _ _) _ ?_ ?_); (· (first | with_reducible assumption | ((with_reducible refine t_vin ?_); decide) | ((with_reducible refine vp_in_nI ?_ ?_) <;> first | omega | decide) | (simp (disch := omega) only [xl_n, xl_m, nI_dec, nI_sb, nI_add, pk_mul]; (with_reducible refine vp_in_nI ?_ ?_) <;> first | omega | decide))); (conv => whnf))
            | (refine And.intro (by first | with_reducible assumption | exact (show tL _ = _ from rfl) | decide) ?_; (conv => whnf))
            | ((with_reducible refine @And.intro (_ = _) _ ?_ ?_); (· rfl); (conv => whnf))
            | ((with_reducible refine @And.intro (@LE.le Nat _ _ _) _ ?_ ?_); (· (first | exact Nat.zero_le _ | exact Nat.le_of_ble_eq_true rfl | omega)); (conv => whnf))
            | ((with_reducible refine @And.intro (@LT.lt Nat _ _ _) _ ?_ ?_); (· omega); (conv => whnf))
            | ((with_reducible refine @And.intro (∃ _, _ = _) _ ?_ ?_); (· exact ⟨_, rfl⟩); (conv => whnf))
            | ((with_reducible refine @And.intro (_ ∨ _) _ ?_ ?_); (· (first | exact Or.inl rfl | exact Or.inr rfl | exact t_b01 _ | assumption)); (conv => whnf))
            | ((with_reducible refine @And.intro (¬ (_ = _)) _ ?_ ?_); (· first | assumption | (with_reducible assumption)); (conv => whnf))
            | (refine hX _ _ _ _ _ _ ?_; (conv => whnf); fail_if_success show False)
            | (rw [t_si]; (conv => whnf))
            | (refine ⟨_, rfl, ?_⟩; (conv => whnf))
            | (refine ⟨_, _, rfl, ?_⟩; (conv => whnf))
            | (refine ⟨_, _, _, rfl, ?_⟩; (conv => whnf))
            | (refine ⟨_, _, _, _, rfl, ?_⟩; (conv => whnf))
            | fail)
          refine And.intro (fun c => ?_) (fun c => ?_) <;> (conv => whnf)
          · exact absurd c (by
              show ¬ nI (9 - k) < 0
              exact nI_pos (by omega))
          · repeat' (first
              | ((with_reducible refine @And.intro (vp_in _ _) _ ?_ ?_); (· (first | with_reducible assumption | ((with_reducible refine t_vin ?_); decide) | ((with_reducible refine vp_in_nI ?_ ?_) <;> first | omega | decide) | (simp (disch := omega) only [xl_n, xl_m, nI_dec, nI_sb, nI_add, pk_mul]; (with_reducible refine vp_in_nI ?_ ?_) <;> first | omega | decide))); (conv => whnf))
              | (refine And.intro (by first | with_reducible assumption | exact (show tL _ = _ from rfl) | decide) ?_; (conv => whnf))
              | ((with_reducible refine @And.intro (_ = _) _ ?_ ?_); (· rfl); (conv => whnf))
              | ((with_reducible refine @And.intro (@LE.le Nat _ _ _) _ ?_ ?_); (· (first | exact Nat.zero_le _ | exact Nat.le_of_ble_eq_true rfl | omega)); (conv => whnf))
              | ((with_reducible refine @And.intro (@LT.lt Nat _ _ _) _ ?_ ?_); (· omega); (conv => whnf))
              | ((with_reducible refine @And.intro (∃ _, _ = _) _ ?_ ?_); (· exact ⟨_, rfl⟩); (conv => whnf))
              | ((with_reducible refine @And.intro (_ ∨ _) _ ?_ ?_); (· (first | exact Or.inl rfl | exact Or.inr rfl | exact t_b01 _ | assumption)); (conv => whnf))
              | ((with_reducible refine @And.intro (¬ (_ = _)) _ ?_ ?_); (· first | assumption | (with_reducible assumption)); (conv => whnf))
              | (refine hX _ _ _ _ _ _ ?_; (conv => whnf); fail_if_success show False)
              | (rw [t_si]; simp (disch := omega) only [xl_n, xl_m, nI_dec, nI_sb, xl_0, xl_1, tW_i, t_bn0, t_bn1, Classical.not_not, t_lt, nI_add, nI_1, pk_mul, nI_clamp, t_si, nI_eq, nI_leI, nM_ne, nM_ne, xm_u2_ne, xm_u2_at, reduceIte, tK_u, tA_u, Nat.reduceEqDiff]; (conv => whnf))
              | (refine ⟨_, rfl, ?_⟩; (conv => whnf))
              | (refine ⟨_, _, rfl, ?_⟩; (conv => whnf))
              | (refine ⟨_, _, _, rfl, ?_⟩; (conv => whnf))
              | (refine ⟨_, _, _, _, rfl, ?_⟩; (conv => whnf))
              | (rw [t_l110 (by first | with_reducible assumption | omega | exact vp_lt (by assumption) | (rw [nI_clamp (by omega)]; omega))]; (conv => whnf))
              | (refine And.intro (fun c => ?_) (fun c => ?_) <;> (first | (exact absurd c (by decide +kernel)) | (conv => whnf)))
              | fail)
            have s1 : t_sp (xm_u2 J (110 + h) 0 (nI (9 - k))) (xm_u2 M (110 + h) 0 (nI (9 - k))) := t_sp_put hM (by omega) nf
            have hgL : t_good (xm_u2 J (110 + h) 0 (nI (9 - k))) := good_limp hg (by omega)
            have hgM := s1.good hgL
            have eK : tK (xm_u2 M (110 + h) 0 (nI (9 - k))) = g_limpK (tK J) h (nI (9 - k)) := by rw [s1.same.K hgL, tK_limpu hl hh h9]
            have eA : tA M 36 = tA J 36 := tA_eq fun j _ => by
              rw [hM.1 36 (by decide) (t_nf (by omega))]
              exact xm_u2_ne (by omega) j
            refine ⟨hgM.1, hgM.2.1, ?_, fun L hL => ?_⟩
            · rw [t_p_eq (s1.fx 12 (Or.inl rfl)), t_p_eq (I := J) (funext fun j => xm_u2_ne (by omega) j)]
              exact hp
            (conv => whnf)
            have nx' := nx L (s1.tr (hL.sl.sp t_f34)) (by rw [hL.2 0 (by unfold t_scf; omega), xm_u2_ne (by omega)]; exact h0)
            rw [eK, tA_u (show 36 ≠ 110 + h by omega), eA]
            have q := t_o_eq (o := g_chosen (g_limpK (tK J) h (nI (9 - k))) (tA J 36) p) (h := h) (by omega) (fun z hz => by
              have := g_best_lt (n := t_h J) hz
              omega)
            clear nx
            repeat' (first
              | ((with_reducible refine @And.intro (vp_in _ _) _ ?_ ?_); (· (first | with_reducible assumption | ((with_reducible refine t_vin ?_); decide) | ((with_reducible refine vp_in_nI ?_ ?_) <;> first | omega | decide) | (simp (disch := omega) only [xl_n, xl_m, nI_dec, nI_sb, nI_add, pk_mul]; (with_reducible refine vp_in_nI ?_ ?_) <;> first | omega | decide))); (conv => whnf))
              | (refine And.intro (by first | with_reducible assumption | exact (show tL _ = _ from rfl) | decide) ?_; (conv => whnf))
              | ((with_reducible refine @And.intro (_ = _) _ ?_ ?_); (· rfl); (conv => whnf))
              | ((with_reducible refine @And.intro (@LE.le Nat _ _ _) _ ?_ ?_); (· (first | exact Nat.zero_le _ | exact Nat.le_of_ble_eq_true rfl | omega)); (conv => whnf))
              | ((with_reducible refine @And.intro (@LT.lt Nat _ _ _) _ ?_ ?_); (· omega); (conv => whnf))
              | ((with_reducible refine @And.intro (∃ _, _ = _) _ ?_ ?_); (· exact ⟨_, rfl⟩); (conv => whnf))
              | ((with_reducible refine @And.intro (_ ∨ _) _ ?_ ?_); (· (first | exact Or.inl rfl | exact Or.inr rfl | exact t_b01 _ | assumption)); (conv => whnf))
              | ((with_reducible refine @And.intro (¬ (_ = _)) _ ?_ ?_); (· first | assumption | (with_reducible assumption)); (conv => whnf))
              | (refine hX _ _ _ _ _ _ ?_; (conv => whnf); fail_if_success show False)
              | (rw [t_si]; (conv => whnf))
              | (refine ⟨_, rfl, ?_⟩; (conv => whnf))
              | (refine ⟨_, _, rfl, ?_⟩; (conv => whnf))
              | (refine ⟨_, _, _, rfl, ?_⟩; (conv => whnf))
              | (refine ⟨_, _, _, _, rfl, ?_⟩; (conv => whnf))
              | (refine And.intro (fun c => ?_) (fun c => ?_) <;> (first | (exact absurd c (by decide +kernel)) | (conv => whnf)))
              | fail)
            · clear hX hG hQ
              simp (disch := omega) only [xl_n, xl_m, nI_dec, nI_sb, xl_0, xl_1, tW_i, t_bn0, t_bn1, Classical.not_not, t_lt, nI_add, nI_1, pk_mul, nI_clamp, t_si, nI_eq, nI_leI, nM_ne, nM_ne, xm_set, xm_lv0, xm_psh] at *
              rw [if_neg (by
                show ¬ g_chosen (g_limpK (tK J) h (nI (9 - k))) (tA J 36) p = some h
                rw [← q]
                assumption)] at nx'
              exact nx'
            · clear hX hG hQ
              simp (disch := omega) only [xl_n, xl_m, nI_dec, nI_sb, xl_0, xl_1, tW_i, t_bn0, t_bn1, Classical.not_not, t_lt, nI_add, nI_1, pk_mul, nI_clamp, t_si, nI_eq, nI_leI, nM_ne, nM_ne, xm_set, xm_lv0, xm_psh] at *
              rw [if_pos (by
                show g_chosen (g_limpK (tK J) h (nI (9 - k))) (tA J 36) p = some h
                rw [← q]
                assumption)] at nx'
              exact nx'
        · have : k = 10 := by omega
          subst this
          rw [show t_down 10 = nM from rfl]
          clear ih
          refine hG _ _ _ _ _ _ ?_
          (conv => whnf)
          repeat' (first
            | ((with_reducible refine @And.intro (vp_in _ _) _ ?_ ?_); (· (first | with_reducible assumption | ((with_reducible refine t_vin ?_); decide) | ((with_reducible refine vp_in_nI ?_ ?_) <;> first | omega | decide) | (simp (disch := omega) only [xl_n, xl_m, nI_dec, nI_sb, nI_add, pk_mul]; (with_reducible refine vp_in_nI ?_ ?_) <;> first | omega | decide))); (conv => whnf))
            | (refine And.intro (by first | with_reducible assumption | exact (show tL _ = _ from rfl) | decide) ?_; (conv => whnf))
            | ((with_reducible refine @And.intro (_ = _) _ ?_ ?_); (· rfl); (conv => whnf))
            | ((with_reducible refine @And.intro (@LE.le Nat _ _ _) _ ?_ ?_); (· (first | exact Nat.zero_le _ | exact Nat.le_of_ble_eq_true rfl | omega)); (conv => whnf))
            | ((with_reducible refine @And.intro (@LT.lt Nat _ _ _) _ ?_ ?_); (· omega); (conv => whnf))
            | ((with_reducible refine @And.intro (∃ _, _ = _) _ ?_ ?_); (· exact ⟨_, rfl⟩); (conv => whnf))
            | ((with_reducible refine @And.intro (_ ∨ _) _ ?_ ?_); (· (first | exact Or.inl rfl | exact Or.inr rfl | exact t_b01 _ | assumption)); (conv => whnf))
            | ((with_reducible refine @And.intro (¬ (_ = _)) _ ?_ ?_); (· first | assumption | (with_reducible assumption)); (conv => whnf))
            | (refine hX _ _ _ _ _ _ ?_; (conv => whnf); fail_if_success show False)
            | (rw [t_si]; simp (disch := omega) only [xl_n, xl_m, nI_dec, nI_sb, xl_0, xl_1, tW_i, t_bn0, t_bn1, Classical.not_not, t_lt, nI_add, nI_1, pk_mul, nI_clamp, t_si, nI_eq, nI_leI, nM_ne, nM_ne, xm_u2_ne, xm_u2_at, reduceIte, tK_u, tA_u, Nat.reduceEqDiff]; (conv => whnf))
            | (refine ⟨_, rfl, ?_⟩; (conv => whnf))
            | (refine ⟨_, _, rfl, ?_⟩; (conv => whnf))
            | (refine ⟨_, _, _, rfl, ?_⟩; (conv => whnf))
            | (refine ⟨_, _, _, _, rfl, ?_⟩; (conv => whnf))
            | (rw [t_l110 (by first | with_reducible assumption | omega | exact vp_lt (by assumption) | (rw [nI_clamp (by omega)]; omega))]; (conv => whnf))
            | (refine And.intro (fun c => ?_) (fun c => ?_) <;> (first | (exact absurd c (by decide +kernel)) | (conv => whnf)))
            | fail)
          have s1 := t_sp_put (v := J (110 + h) 0) hM (by omega) nf
          rw [xm_u2_self] at s1
          rw [Bool.and_true, g_ck_t] at hQ
          exact t_ask hQ hg s1 (by rw [xm_u2_ne (by omega)]; exact h0) rfl
      repeat' (first
        | ((with_reducible refine @And.intro (vp_in _ _) _ ?_ ?_); (· (first | with_reducible assumption | ((with_reducible refine t_vin ?_); decide) | ((with_reducible refine vp_in_nI ?_ ?_) <;> first | omega | decide) | (simp (disch := omega) only [xl_n, xl_m, nI_dec, nI_sb, nI_add, pk_mul]; (with_reducible refine vp_in_nI ?_ ?_) <;> first | omega | decide))); (conv => whnf))
        | (refine And.intro (by first | with_reducible assumption | exact (show tL _ = _ from rfl) | decide) ?_; (conv => whnf))
        | ((with_reducible refine @And.intro (_ = _) _ ?_ ?_); (· rfl); (conv => whnf))
        | ((with_reducible refine @And.intro (@LE.le Nat _ _ _) _ ?_ ?_); (· (first | exact Nat.zero_le _ | exact Nat.le_of_ble_eq_true rfl | omega)); (conv => whnf))
        | ((with_reducible refine @And.intro (@LT.lt Nat _ _ _) _ ?_ ?_); (· omega); (conv => whnf))
        | ((with_reducible refine @And.intro (∃ _, _ = _) _ ?_ ?_); (· exact ⟨_, rfl⟩); (conv => whnf))
        | ((with_reducible refine @And.intro (_ ∨ _) _ ?_ ?_); (· (first | exact Or.inl rfl | exact Or.inr rfl | exact t_b01 _ | assumption)); (conv => whnf))
        | ((with_reducible refine @And.intro (¬ (_ = _)) _ ?_ ?_); (· first | assumption | (with_reducible assumption)); (conv => whnf))
        | (refine hX _ _ _ _ _ _ ?_; (conv => whnf); fail_if_success show False)
        | (rw [t_si]; (conv => whnf))
        | (refine ⟨_, rfl, ?_⟩; (conv => whnf))
        | (refine ⟨_, _, rfl, ?_⟩; (conv => whnf))
        | (refine ⟨_, _, _, rfl, ?_⟩; (conv => whnf))
        | (refine ⟨_, _, _, _, rfl, ?_⟩; (conv => whnf))
        | (rw [t_l110 (by first | with_reducible assumption | omega | exact vp_lt (by assumption) | (rw [nI_clamp (by omega)]; omega))]; (conv => whnf))
        | (rw [e1]; (conv => whnf))
        | (rw [e2]; (conv => whnf))
        | (refine And.intro (fun c => ?_) (fun c => ?_) <;> (first | (exact absurd c (by decide +kernel)) | (conv => whnf)))
        | fail)
      have := loop 0 (Nat.zero_le _) J (J (110 + h) 0) (by rw [xm_u2_self]; exact t_sp.rf) h01
      rw [show t_down 0 = nI 9 from rfl, show g_prac (tG J) h p 0 = nM from rfl] at this
      clear hX hG hQ loop
      simp (disch := omega) only [xl_n, xl_m, nI_dec, nI_sb, xl_0, xl_1, tW_i, t_bn0, t_bn1, Classical.not_not, t_lt, nI_add, nI_1, pk_mul, nI_clamp, t_si, nI_eq, nI_leI, nM_ne, nM_ne, xm_set, xm_lv0, xm_psh] at *
      exact this
    · repeat' (first
        | ((with_reducible refine @And.intro (vp_in _ _) _ ?_ ?_); (· (first | with_reducible assumption | ((with_reducible refine t_vin ?_); decide) | ((with_reducible refine vp_in_nI ?_ ?_) <;> first | omega | decide) | (simp (disch := omega) only [xl_n, xl_m, nI_dec, nI_sb, nI_add, pk_mul]; (with_reducible refine vp_in_nI ?_ ?_) <;> first | omega | decide))); (conv => whnf))
        | (refine And.intro (by first | with_reducible assumption | exact (show tL _ = _ from rfl) | decide) ?_; (conv => whnf))
        | ((with_reducible refine @And.intro (_ = _) _ ?_ ?_); (· rfl); (conv => whnf))
        | ((with_reducible refine @And.intro (@LE.le Nat _ _ _) _ ?_ ?_); (· (first | exact Nat.zero_le _ | exact Nat.le_of_ble_eq_true rfl | omega)); (conv => whnf))
        | ((with_reducible refine @And.intro (@LT.lt Nat _ _ _) _ ?_ ?_); (· omega); (conv => whnf))
        | ((with_reducible refine @And.intro (∃ _, _ = _) _ ?_ ?_); (· exact ⟨_, rfl⟩); (conv => whnf))
        | ((with_reducible refine @And.intro (_ ∨ _) _ ?_ ?_); (· (first | exact Or.inl rfl | exact Or.inr rfl | exact t_b01 _ | assumption)); (conv => whnf))
        | ((with_reducible refine @And.intro (¬ (_ = _)) _ ?_ ?_); (· first | assumption | (with_reducible assumption)); (conv => whnf))
        | (refine hX _ _ _ _ _ _ ?_; (conv => whnf); fail_if_success show False)
        | (rw [t_si]; (conv => whnf))
        | (refine ⟨_, rfl, ?_⟩; (conv => whnf))
        | (refine ⟨_, _, rfl, ?_⟩; (conv => whnf))
        | (refine ⟨_, _, _, rfl, ?_⟩; (conv => whnf))
        | (refine ⟨_, _, _, _, rfl, ?_⟩; (conv => whnf))
        | (rw [e1]; (conv => whnf))
        | (rw [e2]; (conv => whnf))
        | (refine And.intro (fun c => ?_) (fun c => ?_) <;> (first | (exact absurd c (by decide +kernel)) | (conv => whnf)))
        | fail)
      exact t_ref' hQ hg h01 (by simp [f1, f2]) (by decide) rfl rfl
  · rw [q_practise] at hQ
    repeat' (first
      | ((with_reducible refine @And.intro (vp_in _ _) _ ?_ ?_); (· (first | with_reducible assumption | ((with_reducible refine t_vin ?_); decide) | ((with_reducible refine vp_in_nI ?_ ?_) <;> first | omega | decide) | (simp (disch := omega) only [xl_n, xl_m, nI_dec, nI_sb, nI_add, pk_mul]; (with_reducible refine vp_in_nI ?_ ?_) <;> first | omega | decide))); (conv => whnf))
      | (refine And.intro (by first | with_reducible assumption | exact (show tL _ = _ from rfl) | decide) ?_; (conv => whnf))
      | ((with_reducible refine @And.intro (_ = _) _ ?_ ?_); (· rfl); (conv => whnf))
      | ((with_reducible refine @And.intro (@LE.le Nat _ _ _) _ ?_ ?_); (· (first | exact Nat.zero_le _ | exact Nat.le_of_ble_eq_true rfl | omega)); (conv => whnf))
      | ((with_reducible refine @And.intro (@LT.lt Nat _ _ _) _ ?_ ?_); (· omega); (conv => whnf))
      | ((with_reducible refine @And.intro (∃ _, _ = _) _ ?_ ?_); (· exact ⟨_, rfl⟩); (conv => whnf))
      | ((with_reducible refine @And.intro (_ ∨ _) _ ?_ ?_); (· (first | exact Or.inl rfl | exact Or.inr rfl | exact t_b01 _ | assumption)); (conv => whnf))
      | ((with_reducible refine @And.intro (¬ (_ = _)) _ ?_ ?_); (· first | assumption | (with_reducible assumption)); (conv => whnf))
      | (refine hX _ _ _ _ _ _ ?_; (conv => whnf); fail_if_success show False)
      | (rw [t_si]; (conv => whnf))
      | (refine ⟨_, rfl, ?_⟩; (conv => whnf))
      | (refine ⟨_, _, rfl, ?_⟩; (conv => whnf))
      | (refine ⟨_, _, _, rfl, ?_⟩; (conv => whnf))
      | (refine ⟨_, _, _, _, rfl, ?_⟩; (conv => whnf))
      | (rw [e1]; (conv => whnf))
      | (refine And.intro (fun c => ?_) (fun c => ?_) <;> (first | (exact absurd c (by decide +kernel)) | (conv => whnf)))
      | fail)
    exact t_ref' hQ hg h01 (by simp [f1]) (by decide) rfl rfl
theorem ct_X11_practise {Iv : xI} (hI : xm_good Iv) : xm_Ct Iv yX11_practise (ws_ yX11_practise cX11_practise 6 (some .int)) 6 0 0 S_X11_practise := xm_enter (rt := 0) (init := false) (by decide +kernel) rfl (fun h => by cases h) (Or.inl ⟨rfl, rfl⟩) (oX11_practise hI) body_X11_practise
theorem cv_X11_practise {Iv : xI} {own : String} {cc : ByteArray} {fr pc idx : Nat} (hI : xm_good Iv) (hdg : decode cc pc = .ok (.invokevirtual idx, 3)) (hl : xm_ml own idx yX11_practise) (hfr : 6 < fr) : xm_CallOK Iv own cc fr pc (pc + 3) 3 0 0 (xm_this 8 S_X11_practise) := xm_callV 8 hI (ct_X11_practise hI) hdg hl q2371 q2372 q145 q2373 rfl rfl (by decide +kernel) hfr (by decide)
