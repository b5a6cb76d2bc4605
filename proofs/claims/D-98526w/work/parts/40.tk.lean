/-! ===== the reference: when, fades, dies, string ===== -/
set_option maxRecDepth 100000
theorem g_until_s {K : gK} {P : gT → Bool} {n : Nat} {T : gT} : g_until K P (n + 1) T = if P (g_goes K T) = true then gy (g_goes K T) else g_until K P n (g_goes K T) := rfl
def q_when (G : gG) (a b : Int32) : gR := g_ck G (g_isH G a && g_isP G b) (nI 1) 0 (g_says G (g_until (gGK G) (fun T => t_has (gw T b.toNatClampNeg) a.toNatClampNeg) 60 (gnow G)))
abbrev bX11_when_0 : List xE := [(.aload_n 0, 1, 0, 0, 0), (.iconst 0, 2, 0, 0, 0), (.putfield 134, 5, 8, 0, 0), (.aload_n 0, 6, 0, 0, 0), (.aload_n 0, 7, 0, 0, 0), (.iload_n 1, 8, 0, 0, 0), (.invokevirtual 331, 11, 0, 0, 9), (.ifCond .eq 11, 14, 0, 22, 0), (.aload_n 0, 15, 0, 0, 0), (.iload_n 2, 16, 0, 0, 0), (.invokevirtual 338, 19, 0, 1, 9), (.ifCond .ne 7, 22, 0, 26, 0)]
abbrev bX11_when_22 : List xE := [(.iconst 1, 23, 0, 0, 0), (.goto 4, 26, 0, 27, 0)]
abbrev bX11_when_26 : List xE := [(.iconst 0, 27, 0, 0, 0)]
abbrev bX11_when_27 : List xE := [(.iconst 1, 28, 0, 0, 0), (.iconst 0, 29, 0, 0, 0), (.invokevirtual 249, 32, 0, 2, 9), (.ifCond .eq 5, 35, 0, 37, 0), (.iconst 0, 36, 0, 0, 0), (.ireturn, 37, 0, 0, 0)]
abbrev bX11_when_37 : List xE := [(.aload_n 0, 38, 0, 0, 0), (.getfield 91, 41, 8, 36, 1), (.aload_n 0, 42, 0, 0, 0), (.getfield 100, 45, 8, 39, 1), (.invokestatic 266, 48, 0, 3, 9), (.iconst 0, 49, 0, 0, 0), (.istore_n 3, 50, 0, 0, 0)]
abbrev bX11_when_50 : List xE := [(.iload_n 3, 51, 0, 0, 0), (.bipush 60, 53, 0, 0, 0), (.if_icmp .ge 40, 56, 0, 93, 0), (.aload_n 0, 57, 0, 0, 0), (.aload_n 0, 58, 0, 0, 0), (.getfield 100, 61, 8, 39, 1), (.invokevirtual 385, 64, 0, 4, 9), (.aload_n 0, 65, 0, 0, 0), (.getfield 100, 68, 8, 39, 1), (.iconst 1, 69, 0, 0, 0), (.iload_n 2, 70, 0, 0, 0), (.iadd, 71, 0, 0, 0), (.iaload, 72, 0, 0, 0), (.iload_n 1, 73, 0, 0, 0), (.invokestatic 242, 76, 0, 5, 9), (.ifCond .eq 11, 79, 0, 87, 0), (.aload_n 0, 80, 0, 0, 0), (.getfield 100, 83, 8, 39, 1), (.bipush 106, 85, 0, 0, 0), (.iaload, 86, 0, 0, 0), (.ireturn, 87, 0, 0, 0)]
abbrev bX11_when_87 : List xE := [(.iinc 3 1, 90, 0, 0, 0), (.goto (-40), 93, 0, 50, 0)]
abbrev bX11_when_93 : List xE := [(.iconst (-1), 94, 0, 0, 0), (.ireturn, 95, 0, 0, 0)]
abbrev kX11_when : List (Nat × List xE) := [(0, bX11_when_0), (22, bX11_when_22), (26, bX11_when_26), (27, bX11_when_27), (37, bX11_when_37), (50, bX11_when_50), (87, bX11_when_87), (93, bX11_when_93)]
abbrev lX11_when : List (Nat × Nat × Nat × xS) := [(2, 0, 0, xm_this 8 S_X11_isHand), (2, 0, 0, xm_this 8 S_X11_isPuppet), (4, 0, 0, xm_this 8 S_X11_bad), (2, 0, 0, S_X11_copies), (2, 0, 0, xm_this 8 S_X11_goes), (2, 0, 0, S_X11_has)]
theorem oX11_when_0 {Iv : xI} (hI : xm_good Iv)  : xm_okb Iv RX11 cX11_when false 7 lX11_when bX11_when_0 0 := xo_0 dX11_when_0 rfl trivial (xo_0 dX11_when_1 rfl trivial (xo_0 dX11_when_2 rfl (xm_fp_of (xm_fg_of (Or.inl q1955) (by decide) rfl (by decide) rfl rfl (Or.inl rfl) rfl) (by decide) rfl (Or.inl ⟨rfl, rfl⟩) rfl) (xo_0 dX11_when_5 rfl trivial (xo_0 dX11_when_6 rfl trivial (xo_0 dX11_when_7 rfl trivial (xo_c rfl (cv_X11_isHand hI dX11_when_8 (Or.inl q2304) (by decide)) (xo_0 dX11_when_11 rfl rfl (xo_0 dX11_when_14 rfl trivial (xo_0 dX11_when_15 rfl trivial (xo_c rfl (cv_X11_isPuppet hI dX11_when_16 (Or.inl q2319) (by decide)) (xo_0 dX11_when_19 rfl rfl (xo_n))))))))))))
theorem oX11_when_22 {Iv : xI} (hI : xm_good Iv)  : xm_okb Iv RX11 cX11_when false 7 lX11_when bX11_when_22 22 := xo_0 dX11_when_22 rfl trivial (xo_0 dX11_when_23 rfl rfl (xo_n))
theorem oX11_when_26 {Iv : xI} (hI : xm_good Iv)  : xm_okb Iv RX11 cX11_when false 7 lX11_when bX11_when_26 26 := xo_0 dX11_when_26 rfl trivial (xo_n)
theorem oX11_when_27 {Iv : xI} (hI : xm_good Iv)  : xm_okb Iv RX11 cX11_when false 7 lX11_when bX11_when_27 27 := xo_0 dX11_when_27 rfl trivial (xo_0 dX11_when_28 rfl trivial (xo_c rfl (cv_X11_bad hI dX11_when_29 (Or.inl q2137) (by decide)) (xo_0 dX11_when_32 rfl rfl (xo_0 dX11_when_35 rfl trivial (xo_0 dX11_when_36 rfl trivial (xo_n))))))
theorem oX11_when_37 {Iv : xI} (hI : xm_good Iv)  : xm_okb Iv RX11 cX11_when false 7 lX11_when bX11_when_37 37 := xo_0 dX11_when_37 rfl trivial (xo_1 dX11_when_38 rfl (xm_fg_of (Or.inl q1991) (by decide) rfl (by decide) rfl rfl (Or.inl rfl) rfl) (xo_0 dX11_when_41 rfl trivial (xo_1 dX11_when_42 rfl (xm_fg_of (Or.inl q1994) (by decide) rfl (by decide) rfl rfl (Or.inl rfl) rfl) (xo_c rfl (cv_X11_copies hI dX11_when_45 (Or.inl q1948) (by decide)) (xo_0 dX11_when_48 rfl trivial (xo_0 dX11_when_49 rfl trivial (xo_n)))))))
theorem oX11_when_50 {Iv : xI} (hI : xm_good Iv)  : xm_okb Iv RX11 cX11_when false 7 lX11_when bX11_when_50 50 := xo_0 dX11_when_50 rfl trivial (xo_0 dX11_when_51 rfl (xo_bipush (by decide +kernel)) (xo_0 dX11_when_53 rfl rfl (xo_0 dX11_when_56 rfl trivial (xo_0 dX11_when_57 rfl trivial (xo_1 dX11_when_58 rfl (xm_fg_of (Or.inl q1994) (by decide) rfl (by decide) rfl rfl (Or.inl rfl) rfl) (xo_c rfl (cv_X11_goes hI dX11_when_61 (Or.inl q2378) (by decide)) (xo_0 dX11_when_64 rfl trivial (xo_1 dX11_when_65 rfl (xm_fg_of (Or.inl q1994) (by decide) rfl (by decide) rfl rfl (Or.inl rfl) rfl) (xo_0 dX11_when_68 rfl trivial (xo_0 dX11_when_69 rfl trivial (xo_0 dX11_when_70 rfl trivial (xo_0 dX11_when_71 rfl trivial (xo_0 dX11_when_72 rfl trivial (xo_c rfl (cv_X11_has hI dX11_when_73 (Or.inl q1945) (by decide)) (xo_0 dX11_when_76 rfl rfl (xo_0 dX11_when_79 rfl trivial (xo_1 dX11_when_80 rfl (xm_fg_of (Or.inl q1994) (by decide) rfl (by decide) rfl rfl (Or.inl rfl) rfl) (xo_0 dX11_when_83 rfl (xo_bipush (by decide +kernel)) (xo_0 dX11_when_85 rfl trivial (xo_0 dX11_when_86 rfl trivial (xo_n)))))))))))))))))))))
theorem oX11_when_87 {Iv : xI} (hI : xm_good Iv)  : xm_okb Iv RX11 cX11_when false 7 lX11_when bX11_when_87 87 := xo_0 dX11_when_87 rfl trivial (xo_0 dX11_when_90 rfl rfl (xo_n))
theorem oX11_when_93 {Iv : xI} (hI : xm_good Iv)  : xm_okb Iv RX11 cX11_when false 7 lX11_when bX11_when_93 93 := xo_0 dX11_when_93 rfl trivial (xo_0 dX11_when_94 rfl trivial (xo_n))
theorem oX11_when {Iv : xI} (hI : xm_good Iv)  : ∀ q ∈ kX11_when, xm_okb Iv RX11 cX11_when false 7 lX11_when q.2 q.1 := by
  intro q hq
  simp only [List.mem_cons, List.not_mem_nil, or_false] at hq
  rcases hq with rfl | rfl | rfl | rfl | rfl | rfl | rfl | rfl
  · exact oX11_when_0 hI  
  · exact oX11_when_22 hI  
  · exact oX11_when_26 hI  
  · exact oX11_when_27 hI  
  · exact oX11_when_37 hI  
  · exact oX11_when_50 hI  
  · exact oX11_when_87 hI  
  · exact oX11_when_93 hI  
def S_X11_when : xS := tU fun as I Q => ∃ a b, as = [.ref 0, .int a, .int b] ∧ t_good I ∧ t_P Q (q_when (tG I) a b)
theorem body_X11_when : xm_Body 4 0 0 0 [] lX11_when kX11_when S_X11_when := by
  intro X avs w Q QX hX0 hS
  have hG := xm_go [] hX0
  have hX := xm_go [50] hX0
  clear hX0
  obtain ⟨I, rfl, a, b, rfl, hg, hQ⟩ := hS
  refine ⟨rfl, ?_⟩
  repeat' (first
    | ((with_reducible refine @And.intro (vp_in _ _) _ ?_ ?_); (· (first | with_reducible assumption | ((with_reducible refine t_vin ?_); decide) | ((with_reducible refine vp_in_nI ?_ ?_) <;> first | omega | decide) | (simp (disch := omega) only [xl_n, xl_m, nI_dec, nI_sb, nI_add, pk_mul]; (with_reducible refine vp_in_nI ?_ ?_) <;> first | omega | decide))); (conv => whnf))
    | (refine And.intro (by first | with_reducible assumption | exact (show tL _ = _ from rfl) | decide) ?_; (conv => whnf))
    | ((with_reducible refine @And.intro (_ = _) _ ?_ ?_); (· rfl); (conv => whnf))
    | ((with_reducible refine @And.intro (@LE.le Nat _ _ _) _ ?_ ?_); (· (first | exact Nat.zero_le _ | exact Nat.le_of_ble_eq_true rfl | omega)); (conv => whnf))
    | ((with_reducible refine @And.intro (@LT.lt Nat _ _ _) _ ?_ ?_); (· omega); (conv => whnf))
    | ((with_reducible refine @And.intro (∃ _, _ = _) _ ?_ ?_); (· exact ⟨_, rfl⟩); (conv => whnf))
    | ((with_reducible refine @And.intro (_ ∨ _) _ ?_ ?_); (· (first | exact Or.inl rfl | exact Or.inr rfl | exact t_b01 _ | assumption)); (conv => whnf))
    | ((with_reducible refine @And.intro (¬ (_ = _)) _ ?_ ?_); (· first | assumption | (with_reducible assumption)); (conv => whnf))
    | (refine hX _ _ _ _ _ _ ?_; (conv => whnf); fail_if_success show False)
    | fail)
  rw [t_si]
  obtain ⟨J, hJ, hg1, hG1, h01⟩ := t_pub hg
  rw [← hJ]
  rw [← hG1] at hQ
  clear hJ hG1 hg I
  have hg := hg1
  have hok := hg.1
  have hl := hg.2.1
  have h8 := hok.2.2.2.1
  have h9 := hok.2.1
  (conv => whnf)
  rcases t_hc hg a with ⟨h, hh, rfl, e1, f1⟩ | ⟨e1, f1⟩
  · rcases t_pc hg b with ⟨p, hp, rfl, e2, f2⟩ | ⟨e2, f2⟩
    · rw [q_when, f1, f2, nI_clamp (by omega), nI_clamp (by omega)] at hQ
      have loop : ∀ k, k ≤ 60 → ∀ M, t_sp J M → M 0 0 = nI 0 → g_until (tK J) (fun T => t_has (gw T p) h) (60 - k) (tA M 39) = g_until (tK J) (fun T => t_has (gw T p) h) 60 (tA J 36) → X 50 [some (.ref 0), some (.int (nI h)), some (.int (nI p)), some (.int (nI k))] [] (tW M) 0 0 := by
        refine t_for fun k h1 ih M hM h0 hA => ?_
        have hgM := hM.good hg
        have hokM := hgM.1
        have hlM := hgM.2.1
        refine hG _ _ _ _ _ _ ?_
        (conv => whnf)
        repeat' (first
          | ((with_reducible refine @And.intro (vp_in _ _) _ ?_ ?_); (· (first | with_reducible assumption | ((with_reducible refine t_vin ?_); decide) | ((with_reducible refine vp_in_nI ?_ ?_) <;> first | omega | decide) | (simp (disch := omega) only [xl_n, xl_m, nI_dec, nI_sb, nI_add, pk_mul]; (with_reducible refine vp_in_nI ?_ ?_) <;> first | omega | decide))); (conv => whnf))
          | (refine And.intro (by first | with_reducible assumption | exact (show tL _ = _ from rfl) | decide) ?_; (conv => whnf))
          | ((with_reducible refine @And.intro (_ = _) _ ?_ ?_); (· rfl); (conv => whnf))
          | ((with_reducible refine @And.intro (@LE.le Nat _ _ _) _ ?_ ?_); (· (first | exact Nat.zero_le _ | exact Nat.le_of_ble_eq_true rfl | omega)); (conv => whnf))
          | ((with_reducible refine @And.intro (@LT.lt Nat _ _ _) _ ?_ ?_); (· omega); (conv => whnf))
          | ((with_reducible refine @And.intro (∃ _, _ = _) _ ?_ ?_); (· exact ⟨_, rfl⟩); (conv => whnf))
          | ((with_reducible refine @And.intro (_ ∨ _) _ ?_ ?_); (· (first | exact Or.inl rfl | exact Or.inr rfl | exact t_b01 _ | assumption)); (conv => whnf))
          | ((with_reducible refine @And.intro (¬ (_ = _)) _ ?_ ?_); (· first | assumption | (with_reducible assumption)); (conv => whnf))
          | (refine hX _ _ _ _ _ _ ?_; (conv => whnf); fail_if_success show False)
          | (rw [t_si]; (conv => whnf))
          | (refine ⟨_, rfl, ?_⟩; (conv => whnf))
          | (refine ⟨_, _, rfl, ?_⟩; (conv => whnf))
          | (refine ⟨_, _, _, rfl, ?_⟩; (conv => whnf))
          | (refine ⟨_, _, _, _, rfl, ?_⟩; (conv => whnf))
          | fail)
        refine And.intro (fun c => ?_) (fun c => ?_) <;> (conv => whnf)
        · repeat' (first
            | ((with_reducible refine @And.intro (vp_in _ _) _ ?_ ?_); (· (first | with_reducible assumption | ((with_reducible refine t_vin ?_); decide) | ((with_reducible refine vp_in_nI ?_ ?_) <;> first | omega | decide) | (simp (disch := omega) only [xl_n, xl_m, nI_dec, nI_sb, nI_add, pk_mul]; (with_reducible refine vp_in_nI ?_ ?_) <;> first | omega | decide))); (conv => whnf))
            | (refine And.intro (by first | with_reducible assumption | exact (show tL _ = _ from rfl) | decide) ?_; (conv => whnf))
            | ((with_reducible refine @And.intro (_ = _) _ ?_ ?_); (· rfl); (conv => whnf))
            | ((with_reducible refine @And.intro (@LE.le Nat _ _ _) _ ?_ ?_); (· (first | exact Nat.zero_le _ | exact Nat.le_of_ble_eq_true rfl | omega)); (conv => whnf))
            | ((with_reducible refine @And.intro (@LT.lt Nat _ _ _) _ ?_ ?_); (· omega); (conv => whnf))
            | ((with_reducible refine @And.intro (∃ _, _ = _) _ ?_ ?_); (· exact ⟨_, rfl⟩); (conv => whnf))
            | ((with_reducible refine @And.intro (_ ∨ _) _ ?_ ?_); (· (first | exact Or.inl rfl | exact Or.inr rfl | exact t_b01 _ | assumption)); (conv => whnf))
            | ((with_reducible refine @And.intro (¬ (_ = _)) _ ?_ ?_); (· first | assumption | (with_reducible assumption)); (conv => whnf))
            | (refine hX _ _ _ _ _ _ ?_; (conv => whnf); fail_if_success show False)
            | (rw [t_si]; (conv => whnf))
            | (refine ⟨_, rfl, ?_⟩; (conv => whnf))
            | (refine ⟨_, _, rfl, ?_⟩; (conv => whnf))
            | (refine ⟨_, _, _, rfl, ?_⟩; (conv => whnf))
            | (refine ⟨_, _, _, _, rfl, ?_⟩; (conv => whnf))
            | fail)
          have : k = 60 := Nat.le_antisymm h1 (t_kge (n := 60) rfl c (by omega) (by omega))
          subst this
          refine t_ask hQ hg hM h0 ?_
          exact (xl_m.trans hA)
        · have hk : k < 60 := t_klt (n := 60) rfl c (by omega)
          repeat' (first
            | ((with_reducible refine @And.intro (vp_in _ _) _ ?_ ?_); (· (first | with_reducible assumption | ((with_reducible refine t_vin ?_); decide) | ((with_reducible refine vp_in_nI ?_ ?_) <;> first | omega | decide) | (simp (disch := omega) only [xl_n, xl_m, nI_dec, nI_sb, nI_add, pk_mul]; (with_reducible refine vp_in_nI ?_ ?_) <;> first | omega | decide))); (conv => whnf))
            | (refine And.intro (by first | with_reducible assumption | exact (show tL _ = _ from rfl) | decide) ?_; (conv => whnf))
            | ((with_reducible refine @And.intro (_ = _) _ ?_ ?_); (· rfl); (conv => whnf))
            | ((with_reducible refine @And.intro (@LE.le Nat _ _ _) _ ?_ ?_); (· (first | exact Nat.zero_le _ | exact Nat.le_of_ble_eq_true rfl | omega)); (conv => whnf))
            | ((with_reducible refine @And.intro (@LT.lt Nat _ _ _) _ ?_ ?_); (· omega); (conv => whnf))
            | ((with_reducible refine @And.intro (∃ _, _ = _) _ ?_ ?_); (· exact ⟨_, rfl⟩); (conv => whnf))
            | ((with_reducible refine @And.intro (_ ∨ _) _ ?_ ?_); (· (first | exact Or.inl rfl | exact Or.inr rfl | exact t_b01 _ | assumption)); (conv => whnf))
            | ((with_reducible refine @And.intro (¬ (_ = _)) _ ?_ ?_); (· first | assumption | (with_reducible assumption)); (conv => whnf))
            | (refine hX _ _ _ _ _ _ ?_; (conv => whnf); fail_if_success show False)
            | (rw [t_si]; (conv => whnf))
            | (refine ⟨_, rfl, ?_⟩; (conv => whnf))
            | (refine ⟨_, _, rfl, ?_⟩; (conv => whnf))
            | (refine ⟨_, _, _, rfl, ?_⟩; (conv => whnf))
            | (refine ⟨_, _, _, _, rfl, ?_⟩; (conv => whnf))
            | (refine And.intro (fun c => ?_) (fun c => ?_) <;> (first | (exact absurd c (by decide +kernel)) | (conv => whnf)))
            | fail)
          intro L hL hE
          (conv => whnf)
          have ⟨t1, t2, t3⟩ := t_try hg hM hL hE
          rw [show 60 - k = (60 - (k + 1)) + 1 by omega, g_until_s, ← t3] at hA
          have := ih (k + 1) (by omega) (by omega) L t1 (t2.trans h0)
          clear ih
          repeat' (first
            | ((with_reducible refine @And.intro (vp_in _ _) _ ?_ ?_); (· (first | with_reducible assumption | ((with_reducible refine t_vin ?_); decide) | ((with_reducible refine vp_in_nI ?_ ?_) <;> first | omega | decide) | (simp (disch := omega) only [xl_n, xl_m, nI_dec, nI_sb, nI_add, pk_mul]; (with_reducible refine vp_in_nI ?_ ?_) <;> first | omega | decide))); (conv => whnf))
            | (refine And.intro (by first | with_reducible assumption | exact (show tL _ = _ from rfl) | decide) ?_; (conv => whnf))
            | ((with_reducible refine @And.intro (_ = _) _ ?_ ?_); (· rfl); (conv => whnf))
            | ((with_reducible refine @And.intro (@LE.le Nat _ _ _) _ ?_ ?_); (· (first | exact Nat.zero_le _ | exact Nat.le_of_ble_eq_true rfl | omega)); (conv => whnf))
            | ((with_reducible refine @And.intro (@LT.lt Nat _ _ _) _ ?_ ?_); (· omega); (conv => whnf))
            | ((with_reducible refine @And.intro (∃ _, _ = _) _ ?_ ?_); (· exact ⟨_, rfl⟩); (conv => whnf))
            | ((with_reducible refine @And.intro (_ ∨ _) _ ?_ ?_); (· (first | exact Or.inl rfl | exact Or.inr rfl | exact t_b01 _ | assumption)); (conv => whnf))
            | ((with_reducible refine @And.intro (¬ (_ = _)) _ ?_ ?_); (· first | assumption | (with_reducible assumption)); (conv => whnf))
            | (refine hX _ _ _ _ _ _ ?_; (conv => whnf); fail_if_success show False)
            | (rw [t_si]; (conv => whnf))
            | (refine ⟨_, rfl, ?_⟩; (conv => whnf))
            | (refine ⟨_, _, rfl, ?_⟩; (conv => whnf))
            | (refine ⟨_, _, _, rfl, ?_⟩; (conv => whnf))
            | (refine ⟨_, _, _, _, rfl, ?_⟩; (conv => whnf))
            | (refine And.intro (fun c => ?_) (fun c => ?_) <;> (first | (exact absurd c (by decide +kernel)) | (conv => whnf)))
            | fail)
          · clear hX hG
            simp (disch := omega) only [xl_n, xl_m, nI_dec, nI_sb, xl_0, xl_1, tW_i, t_bn0, t_bn1, Classical.not_not, t_lt, nI_add, nI_1, pk_mul, nI_clamp, t_si, nI_eq, nI_leI, nM_ne, nM_ne, xm_set, xm_lv0, xm_psh] at *
            rw [if_neg (by rw [tA_gw (by omega), c]; decide)] at hA
            exact this hA
          · refine t_ask hQ hg t1 (t2.trans h0) ?_
            clear hX hG this
            simp (disch := omega) only [xl_n, xl_m, nI_dec, nI_sb, xl_0, xl_1, tW_i, t_bn0, t_bn1, Classical.not_not, t_lt, nI_add, nI_1, pk_mul, nI_clamp, t_si, nI_eq, nI_leI, nM_ne, nM_ne] at *
            rw [if_pos (by rw [tA_gw (by omega)]; simpa using c)] at hA
            exact hA
      repeat' (first
        | ((with_reducible refine @And.intro (vp_in _ _) _ ?_ ?_); (· (first | with_reducible assumption | ((with_reducible refine t_vin ?_); decide) | ((with_reducible refine vp_in_nI ?_ ?_) <;> first | omega | decide) | (simp (disch := omega) only [xl_n, xl_m, nI_dec, nI_sb, nI_add, pk_mul]; (with_reducible refine vp_in_nI ?_ ?_) <;> first | omega | decide))); (conv => whnf))
        | (refine And.intro (by first | with_reducible assumption | exact (show tL _ = _ from rfl) | decide) ?_; (conv => whnf))
        | ((with_reducible refine @And.intro (_ = _) _ ?_ ?_); (· rfl); (conv => whnf))
        | ((with_reducible refine @And.intro (@LE.le Nat _ _ _) _ ?_ ?_); (· (first | exact Nat.zero_le _ | exact Nat.le_of_ble_eq_true rfl | omega)); (conv => whnf))
        | ((with_reducible refine @And.intro (@LT.lt Nat _ _ _) _ ?_ ?_); (· omega); (conv => whnf))
        | ((with_reducible refine @And.intro (∃ _, _ = _) _ ?_ ?_); (· exact ⟨_, rfl⟩); (conv => whnf))
        | ((with_reducible refine @And.intro (_ ∨ _) _ ?_ ?_); (· (first | exact Or.inl rfl | exact Or.inr rfl | exact t_b01 _ | assumption)); (conv => whnf))
        | ((with_reducible refine @And.intro (¬ (_ = _)) _ ?_ ?_); (· first | assumption | (with_reducible assumption)); (conv => whnf))
        | (refine hX _ _ _ _ _ _ ?_; (conv => whnf); fail_if_success show False)
        | (rw [t_si]; (conv => whnf))
        | (refine ⟨_, rfl, ?_⟩; (conv => whnf))
        | (refine ⟨_, _, rfl, ?_⟩; (conv => whnf))
        | (refine ⟨_, _, _, rfl, ?_⟩; (conv => whnf))
        | (refine ⟨_, _, _, _, rfl, ?_⟩; (conv => whnf))
        | (rw [e1]; (conv => whnf))
        | (rw [e2]; (conv => whnf))
        | (refine And.intro (fun c => ?_) (fun c => ?_) <;> (first | (exact absurd c (by decide +kernel)) | (conv => whnf)))
        | fail)
      intro M hM hk
      (conv => whnf)
      repeat' (first
        | ((with_reducible refine @And.intro (vp_in _ _) _ ?_ ?_); (· (first | with_reducible assumption | ((with_reducible refine t_vin ?_); decide) | ((with_reducible refine vp_in_nI ?_ ?_) <;> first | omega | decide) | (simp (disch := omega) only [xl_n, xl_m, nI_dec, nI_sb, nI_add, pk_mul]; (with_reducible refine vp_in_nI ?_ ?_) <;> first | omega | decide))); (conv => whnf))
        | (refine And.intro (by first | with_reducible assumption | exact (show tL _ = _ from rfl) | decide) ?_; (conv => whnf))
        | ((with_reducible refine @And.intro (_ = _) _ ?_ ?_); (· rfl); (conv => whnf))
        | ((with_reducible refine @And.intro (@LE.le Nat _ _ _) _ ?_ ?_); (· (first | exact Nat.zero_le _ | exact Nat.le_of_ble_eq_true rfl | omega)); (conv => whnf))
        | ((with_reducible refine @And.intro (@LT.lt Nat _ _ _) _ ?_ ?_); (· omega); (conv => whnf))
        | ((with_reducible refine @And.intro (∃ _, _ = _) _ ?_ ?_); (· exact ⟨_, rfl⟩); (conv => whnf))
        | ((with_reducible refine @And.intro (_ ∨ _) _ ?_ ?_); (· (first | exact Or.inl rfl | exact Or.inr rfl | exact t_b01 _ | assumption)); (conv => whnf))
        | ((with_reducible refine @And.intro (¬ (_ = _)) _ ?_ ?_); (· first | assumption | (with_reducible assumption)); (conv => whnf))
        | (refine hX _ _ _ _ _ _ ?_; (conv => whnf); fail_if_success show False)
        | (rw [t_si]; (conv => whnf))
        | (refine ⟨_, rfl, ?_⟩; (conv => whnf))
        | (refine ⟨_, _, rfl, ?_⟩; (conv => whnf))
        | (refine ⟨_, _, _, rfl, ?_⟩; (conv => whnf))
        | (refine ⟨_, _, _, _, rfl, ?_⟩; (conv => whnf))
        | (refine And.intro (fun c => ?_) (fun c => ?_) <;> (first | (exact absurd c (by decide +kernel)) | (conv => whnf)))
        | fail)
      exact loop 0 (Nat.zero_le _) M ((hM.sc (by decide)).sl.sp t_f39) (by rw [hM 0 (by decide)]; exact h01) (by rw [t_copy hM hk])
    · repeat' (first
        | ((with_reducible refine @And.intro (vp_in _ _) _ ?_ ?_); (· (first | with_reducible assumption | ((with_reducible refine t_vin ?_); decide) | ((with_reducible refine vp_in_nI ?_ ?_) <;> first | omega | decide) | (simp (disch := omega) only [xl_n, xl_m, nI_dec, nI_sb, nI_add, pk_mul]; (with_reducible refine vp_in_nI ?_ ?_) <;> first | omega | decide))); (conv => whnf))
        | (refine And.intro (by first | with_reducible assumption | exact (show tL _ = _ from rfl) | decide) ?_; (conv => whnf))
        | ((with_reducible refine @And.intro (_ = _) _ ?_ ?_); (· rfl); (conv => whnf))
        | ((with_reducible refine @And.intro (@LE.le Nat _ _ _) _ ?_ ?_); (· (first | exact Nat.zero_le _ | exact Nat.le_of_ble_eq_true rfl | omega)); (conv => whnf))
        | ((with_reducible refine @And.intro (@LT.lt Nat _ _ _) _ ?_ ?_); (· omega); (conv => whnf))
        | ((with_reducible refine @And.intro (∃ _, _ = _) _ ?_ ?_); (· exact ⟨_, rfl⟩); (conv => whnf))
        | ((with_reducible refine @And.intro (_ ∨ _) _ ?_ ?_); (· (first | exact Or.inl rfl | exact Or.inr rfl | exact t_b01 _ | assumption)); (conv => whnf))
        | ((with_reducible refine @And.intro (¬ (_ = _)) _ ?_ ?_); (· first | assumption | (with_reducible assumption)); (conv => whnf))
        | (refine hX _ _ _ _ _ _ ?_; (conv => whnf); fail_if_success show False)
        | (rw [t_si]; (conv => whnf))
        | (refine ⟨_, rfl, ?_⟩; (conv => whnf))
        | (refine ⟨_, _, rfl, ?_⟩; (conv => whnf))
        | (refine ⟨_, _, _, rfl, ?_⟩; (conv => whnf))
        | (refine ⟨_, _, _, _, rfl, ?_⟩; (conv => whnf))
        | (rw [e1]; (conv => whnf))
        | (rw [e2]; (conv => whnf))
        | (refine And.intro (fun c => ?_) (fun c => ?_) <;> (first | (exact absurd c (by decide +kernel)) | (conv => whnf)))
        | fail)
      exact t_ref' hQ hg h01 (by simp [f1, f2]) (by decide) rfl rfl
  · rw [q_when] at hQ
    repeat' (first
      | ((with_reducible refine @And.intro (vp_in _ _) _ ?_ ?_); (· (first | with_reducible assumption | ((with_reducible refine t_vin ?_); decide) | ((with_reducible refine vp_in_nI ?_ ?_) <;> first | omega | decide) | (simp (disch := omega) only [xl_n, xl_m, nI_dec, nI_sb, nI_add, pk_mul]; (with_reducible refine vp_in_nI ?_ ?_) <;> first | omega | decide))); (conv => whnf))
      | (refine And.intro (by first | with_reducible assumption | exact (show tL _ = _ from rfl) | decide) ?_; (conv => whnf))
      | ((with_reducible refine @And.intro (_ = _) _ ?_ ?_); (· rfl); (conv => whnf))
      | ((with_reducible refine @And.intro (@LE.le Nat _ _ _) _ ?_ ?_); (· (first | exact Nat.zero_le _ | exact Nat.le_of_ble_eq_true rfl | omega)); (conv => whnf))
      | ((with_reducible refine @And.intro (@LT.lt Nat _ _ _) _ ?_ ?_); (· omega); (conv => whnf))
      | ((with_reducible refine @And.intro (∃ _, _ = _) _ ?_ ?_); (· exact ⟨_, rfl⟩); (conv => whnf))
      | ((with_reducible refine @And.intro (_ ∨ _) _ ?_ ?_); (· (first | exact Or.inl rfl | exact Or.inr rfl | exact t_b01 _ | assumption)); (conv => whnf))
      | ((with_reducible refine @And.intro (¬ (_ = _)) _ ?_ ?_); (· first | assumption | (with_reducible assumption)); (conv => whnf))
      | (refine hX _ _ _ _ _ _ ?_; (conv => whnf); fail_if_success show False)
      | (rw [t_si]; (conv => whnf))
      | (refine ⟨_, rfl, ?_⟩; (conv => whnf))
      | (refine ⟨_, _, rfl, ?_⟩; (conv => whnf))
      | (refine ⟨_, _, _, rfl, ?_⟩; (conv => whnf))
      | (refine ⟨_, _, _, _, rfl, ?_⟩; (conv => whnf))
      | (rw [e1]; (conv => whnf))
      | (refine And.intro (fun c => ?_) (fun c => ?_) <;> (first | (exact absurd c (by decide +kernel)) | (conv => whnf)))
      | fail)
    exact t_ref' hQ hg h01 (by simp [f1]) (by decide) rfl rfl
theorem ct_X11_when {Iv : xI} (hI : xm_good Iv) : xm_Ct Iv yX11_when (ws_ yX11_when cX11_when 4 (some .int)) 7 0 0 S_X11_when := xm_enter (rt := 0) (init := false) (by decide +kernel) rfl (fun h => by cases h) (Or.inl ⟨rfl, rfl⟩) (oX11_when hI) body_X11_when
theorem cv_X11_when {Iv : xI} {own : String} {cc : ByteArray} {fr pc idx : Nat} (hI : xm_good Iv) (hdg : decode cc pc = .ok (.invokevirtual idx, 3)) (hl : xm_ml own idx yX11_when) (hfr : 7 < fr) : xm_CallOK Iv own cc fr pc (pc + 3) 3 0 0 (xm_this 8 S_X11_when) := xm_callV 8 hI (ct_X11_when hI) hdg hl q2412 q2413 q145 q2414 rfl rfl (by decide +kernel) hfr (by decide)
def q_fades (G : gG) (a : Int32) : gR := g_ck G (g_isP G a) (nI 1) 0 (g_says G (if gs (gnow G) a.toNatClampNeg = nI 0 then nI 0 else g_until (gGK G) (fun T => decide (gs T a.toNatClampNeg = nI 0)) 60 (gnow G)))
abbrev bX11_fades_0 : List xE := [(.aload_n 0, 1, 0, 0, 0), (.iconst 0, 2, 0, 0, 0), (.putfield 134, 5, 8, 0, 0), (.aload_n 0, 6, 0, 0, 0), (.aload_n 0, 7, 0, 0, 0), (.iload_n 1, 8, 0, 0, 0), (.invokevirtual 338, 11, 0, 0, 9), (.ifCond .ne 7, 14, 0, 18, 0), (.iconst 1, 15, 0, 0, 0), (.goto 4, 18, 0, 19, 0)]
abbrev bX11_fades_18 : List xE := [(.iconst 0, 19, 0, 0, 0)]
abbrev bX11_fades_19 : List xE := [(.iconst 1, 20, 0, 0, 0), (.iconst 0, 21, 0, 0, 0), (.invokevirtual 249, 24, 0, 1, 9), (.ifCond .eq 5, 27, 0, 29, 0), (.iconst 0, 28, 0, 0, 0), (.ireturn, 29, 0, 0, 0)]
abbrev bX11_fades_29 : List xE := [(.aload_n 0, 30, 0, 0, 0), (.getfield 91, 33, 8, 36, 1), (.bipush 9, 35, 0, 0, 0), (.iload_n 1, 36, 0, 0, 0), (.iadd, 37, 0, 0, 0), (.iaload, 38, 0, 0, 0), (.ifCond .ne 5, 41, 0, 43, 0), (.iconst 0, 42, 0, 0, 0), (.ireturn, 43, 0, 0, 0)]
abbrev bX11_fades_43 : List xE := [(.aload_n 0, 44, 0, 0, 0), (.getfield 91, 47, 8, 36, 1), (.aload_n 0, 48, 0, 0, 0), (.getfield 100, 51, 8, 39, 1), (.invokestatic 266, 54, 0, 2, 9), (.iconst 0, 55, 0, 0, 0), (.istore_n 2, 56, 0, 0, 0)]
abbrev bX11_fades_56 : List xE := [(.iload_n 2, 57, 0, 0, 0), (.bipush 60, 59, 0, 0, 0), (.if_icmp .ge 37, 62, 0, 96, 0), (.aload_n 0, 63, 0, 0, 0), (.aload_n 0, 64, 0, 0, 0), (.getfield 100, 67, 8, 39, 1), (.invokevirtual 385, 70, 0, 3, 9), (.aload_n 0, 71, 0, 0, 0), (.getfield 100, 74, 8, 39, 1), (.bipush 9, 76, 0, 0, 0), (.iload_n 1, 77, 0, 0, 0), (.iadd, 78, 0, 0, 0), (.iaload, 79, 0, 0, 0), (.ifCond .ne 11, 82, 0, 90, 0), (.aload_n 0, 83, 0, 0, 0), (.getfield 100, 86, 8, 39, 1), (.bipush 106, 88, 0, 0, 0), (.iaload, 89, 0, 0, 0), (.ireturn, 90, 0, 0, 0)]
abbrev bX11_fades_90 : List xE := [(.iinc 2 1, 93, 0, 0, 0), (.goto (-37), 96, 0, 56, 0)]
abbrev bX11_fades_96 : List xE := [(.iconst (-1), 97, 0, 0, 0), (.ireturn, 98, 0, 0, 0)]
abbrev kX11_fades : List (Nat × List xE) := [(0, bX11_fades_0), (18, bX11_fades_18), (19, bX11_fades_19), (29, bX11_fades_29), (43, bX11_fades_43), (56, bX11_fades_56), (90, bX11_fades_90), (96, bX11_fades_96)]
abbrev lX11_fades : List (Nat × Nat × Nat × xS) := [(2, 0, 0, xm_this 8 S_X11_isPuppet), (4, 0, 0, xm_this 8 S_X11_bad), (2, 0, 0, S_X11_copies), (2, 0, 0, xm_this 8 S_X11_goes)]
theorem oX11_fades_0 {Iv : xI} (hI : xm_good Iv)  : xm_okb Iv RX11 cX11_fades false 7 lX11_fades bX11_fades_0 0 := xo_0 dX11_fades_0 rfl trivial (xo_0 dX11_fades_1 rfl trivial (xo_0 dX11_fades_2 rfl (xm_fp_of (xm_fg_of (Or.inl q1955) (by decide) rfl (by decide) rfl rfl (Or.inl rfl) rfl) (by decide) rfl (Or.inl ⟨rfl, rfl⟩) rfl) (xo_0 dX11_fades_5 rfl trivial (xo_0 dX11_fades_6 rfl trivial (xo_0 dX11_fades_7 rfl trivial (xo_c rfl (cv_X11_isPuppet hI dX11_fades_8 (Or.inl q2319) (by decide)) (xo_0 dX11_fades_11 rfl rfl (xo_0 dX11_fades_14 rfl trivial (xo_0 dX11_fades_15 rfl rfl (xo_n))))))))))
theorem oX11_fades_18 {Iv : xI} (hI : xm_good Iv)  : xm_okb Iv RX11 cX11_fades false 7 lX11_fades bX11_fades_18 18 := xo_0 dX11_fades_18 rfl trivial (xo_n)
theorem oX11_fades_19 {Iv : xI} (hI : xm_good Iv)  : xm_okb Iv RX11 cX11_fades false 7 lX11_fades bX11_fades_19 19 := xo_0 dX11_fades_19 rfl trivial (xo_0 dX11_fades_20 rfl trivial (xo_c rfl (cv_X11_bad hI dX11_fades_21 (Or.inl q2137) (by decide)) (xo_0 dX11_fades_24 rfl rfl (xo_0 dX11_fades_27 rfl trivial (xo_0 dX11_fades_28 rfl trivial (xo_n))))))
theorem oX11_fades_29 {Iv : xI} (hI : xm_good Iv)  : xm_okb Iv RX11 cX11_fades false 7 lX11_fades bX11_fades_29 29 := xo_0 dX11_fades_29 rfl trivial (xo_1 dX11_fades_30 rfl (xm_fg_of (Or.inl q1991) (by decide) rfl (by decide) rfl rfl (Or.inl rfl) rfl) (xo_0 dX11_fades_33 rfl (xo_bipush (by decide +kernel)) (xo_0 dX11_fades_35 rfl trivial (xo_0 dX11_fades_36 rfl trivial (xo_0 dX11_fades_37 rfl trivial (xo_0 dX11_fades_38 rfl rfl (xo_0 dX11_fades_41 rfl trivial (xo_0 dX11_fades_42 rfl trivial (xo_n)))))))))
theorem oX11_fades_43 {Iv : xI} (hI : xm_good Iv)  : xm_okb Iv RX11 cX11_fades false 7 lX11_fades bX11_fades_43 43 := xo_0 dX11_fades_43 rfl trivial (xo_1 dX11_fades_44 rfl (xm_fg_of (Or.inl q1991) (by decide) rfl (by decide) rfl rfl (Or.inl rfl) rfl) (xo_0 dX11_fades_47 rfl trivial (xo_1 dX11_fades_48 rfl (xm_fg_of (Or.inl q1994) (by decide) rfl (by decide) rfl rfl (Or.inl rfl) rfl) (xo_c rfl (cv_X11_copies hI dX11_fades_51 (Or.inl q1948) (by decide)) (xo_0 dX11_fades_54 rfl trivial (xo_0 dX11_fades_55 rfl trivial (xo_n)))))))
theorem oX11_fades_56 {Iv : xI} (hI : xm_good Iv)  : xm_okb Iv RX11 cX11_fades false 7 lX11_fades bX11_fades_56 56 := xo_0 dX11_fades_56 rfl trivial (xo_0 dX11_fades_57 rfl (xo_bipush (by decide +kernel)) (xo_0 dX11_fades_59 rfl rfl (xo_0 dX11_fades_62 rfl trivial (xo_0 dX11_fades_63 rfl trivial (xo_1 dX11_fades_64 rfl (xm_fg_of (Or.inl q1994) (by decide) rfl (by decide) rfl rfl (Or.inl rfl) rfl) (xo_c rfl (cv_X11_goes hI dX11_fades_67 (Or.inl q2378) (by decide)) (xo_0 dX11_fades_70 rfl trivial (xo_1 dX11_fades_71 rfl (xm_fg_of (Or.inl q1994) (by decide) rfl (by decide) rfl rfl (Or.inl rfl) rfl) (xo_0 dX11_fades_74 rfl (xo_bipush (by decide +kernel)) (xo_0 dX11_fades_76 rfl trivial (xo_0 dX11_fades_77 rfl trivial (xo_0 dX11_fades_78 rfl trivial (xo_0 dX11_fades_79 rfl rfl (xo_0 dX11_fades_82 rfl trivial (xo_1 dX11_fades_83 rfl (xm_fg_of (Or.inl q1994) (by decide) rfl (by decide) rfl rfl (Or.inl rfl) rfl) (xo_0 dX11_fades_86 rfl (xo_bipush (by decide +kernel)) (xo_0 dX11_fades_88 rfl trivial (xo_0 dX11_fades_89 rfl trivial (xo_n)))))))))))))))))))
theorem oX11_fades_90 {Iv : xI} (hI : xm_good Iv)  : xm_okb Iv RX11 cX11_fades false 7 lX11_fades bX11_fades_90 90 := xo_0 dX11_fades_90 rfl trivial (xo_0 dX11_fades_93 rfl rfl (xo_n))
theorem oX11_fades_96 {Iv : xI} (hI : xm_good Iv)  : xm_okb Iv RX11 cX11_fades false 7 lX11_fades bX11_fades_96 96 := xo_0 dX11_fades_96 rfl trivial (xo_0 dX11_fades_97 rfl trivial (xo_n))
theorem oX11_fades {Iv : xI} (hI : xm_good Iv)  : ∀ q ∈ kX11_fades, xm_okb Iv RX11 cX11_fades false 7 lX11_fades q.2 q.1 := by
  intro q hq
  simp only [List.mem_cons, List.not_mem_nil, or_false] at hq
  rcases hq with rfl | rfl | rfl | rfl | rfl | rfl | rfl | rfl
  · exact oX11_fades_0 hI  
  · exact oX11_fades_18 hI  
  · exact oX11_fades_19 hI  
  · exact oX11_fades_29 hI  
  · exact oX11_fades_43 hI  
  · exact oX11_fades_56 hI  
  · exact oX11_fades_90 hI  
  · exact oX11_fades_96 hI  
def S_X11_fades : xS := tU fun as I Q => ∃ a, as = [.ref 0, .int a] ∧ t_good I ∧ t_P Q (q_fades (tG I) a)
theorem body_X11_fades : xm_Body 3 0 0 0 [] lX11_fades kX11_fades S_X11_fades := by
  intro X avs w Q QX hX0 hS
  have hG := xm_go [] hX0
  have hX := xm_go [56] hX0
  clear hX0
  obtain ⟨I, rfl, a, rfl, hg, hQ⟩ := hS
  refine ⟨rfl, ?_⟩
  repeat' (first
    | ((with_reducible refine @And.intro (vp_in _ _) _ ?_ ?_); (· (first | with_reducible assumption | ((with_reducible refine t_vin ?_); decide) | ((with_reducible refine vp_in_nI ?_ ?_) <;> first | omega | decide) | (simp (disch := omega) only [xl_n, xl_m, nI_dec, nI_sb, nI_add, pk_mul]; (with_reducible refine vp_in_nI ?_ ?_) <;> first | omega | decide))); (conv => whnf))
    | (refine And.intro (by first | with_reducible assumption | exact (show tL _ = _ from rfl) | decide) ?_; (conv => whnf))
    | ((with_reducible refine @And.intro (_ = _) _ ?_ ?_); (· rfl); (conv => whnf))
    | ((with_reducible refine @And.intro (@LE.le Nat _ _ _) _ ?_ ?_); (· (first | exact Nat.zero_le _ | exact Nat.le_of_ble_eq_true rfl | omega)); (conv => whnf))
    | ((with_reducible refine @And.intro (@LT.lt Nat _ _ _) _ ?_ ?_); (· omega); (conv => whnf))
    | ((with_reducible refine @And.intro (∃ _, _ = _) _ ?_ ?_); (· exact ⟨_, rfl⟩); (conv => whnf))
    | ((with_reducible refine @And.intro (_ ∨ _) _ ?_ ?_); (· (first | exact Or.inl rfl | exact Or.inr rfl | exact t_b01 _ | assumption)); (conv => whnf))
    | ((with_reducible refine @And.intro (¬ (_ = _)) _ ?_ ?_); (· first | assumption | (with_reducible assumption)); (conv => whnf))
    | (refine hX _ _ _ _ _ _ ?_; (conv => whnf); fail_if_success show False)
    | fail)
  rw [t_si]
  obtain ⟨J, hJ, hg1, hG1, h01⟩ := t_pub hg
  rw [← hJ]
  rw [← hG1] at hQ
  clear hJ hG1 hg I
  have hg := hg1
  have hok := hg.1
  have hl := hg.2.1
  have h8 := hok.2.2.2.1
  have h9 := hok.2.1
  (conv => whnf)
  rcases t_pc hg a with ⟨p, hp, rfl, e1, f1⟩ | ⟨e1, f1⟩
  · rw [q_fades, f1, nI_clamp (by omega), g_ck_t, show gs (gnow (tG J)) p = J 36 (9 + p) from tA_gs (by omega)] at hQ
    have loop : ¬ J 36 (9 + p) = nI 0 → ∀ k, k ≤ 60 → ∀ M, t_sp J M → M 0 0 = nI 0 → g_until (tK J) (fun T => decide (gs T p = nI 0)) (60 - k) (tA M 39) = g_until (tK J) (fun T => decide (gs T p = nI 0)) 60 (tA J 36) → X 56 [some (.ref 0), some (.int (nI p)), some (.int (nI k))] [] (tW M) 0 0 := by
      intro hne
      rw [if_neg hne] at hQ
      refine t_for fun k h1 ih M hM h0 hA => ?_
      have hgM := hM.good hg
      have hokM := hgM.1
      have hlM := hgM.2.1
      refine hG _ _ _ _ _ _ ?_
      (conv => whnf)
      repeat' (first
        | ((with_reducible refine @And.intro (vp_in _ _) _ ?_ ?_); (· (first | with_reducible assumption | ((with_reducible refine t_vin ?_); decide) | ((with_reducible refine vp_in_nI ?_ ?_) <;> first | omega | decide) | (simp (disch := omega) only [xl_n, xl_m, nI_dec, nI_sb, nI_add, pk_mul]; (with_reducible refine vp_in_nI ?_ ?_) <;> first | omega | decide))); (conv => whnf))
        | (refine And.intro (by first | with_reducible assumption | exact (show tL _ = _ from rfl) | decide) ?_; (conv => whnf))
        | ((with_reducible refine @And.intro (_ = _) _ ?_ ?_); (· rfl); (conv => whnf))
        | ((with_reducible refine @And.intro (@LE.le Nat _ _ _) _ ?_ ?_); (· (first | exact Nat.zero_le _ | exact Nat.le_of_ble_eq_true rfl | omega)); (conv => whnf))
        | ((with_reducible refine @And.intro (@LT.lt Nat _ _ _) _ ?_ ?_); (· omega); (conv => whnf))
        | ((with_reducible refine @And.intro (∃ _, _ = _) _ ?_ ?_); (· exact ⟨_, rfl⟩); (conv => whnf))
        | ((with_reducible refine @And.intro (_ ∨ _) _ ?_ ?_); (· (first | exact Or.inl rfl | exact Or.inr rfl | exact t_b01 _ | assumption)); (conv => whnf))
        | ((with_reducible refine @And.intro (¬ (_ = _)) _ ?_ ?_); (· first | assumption | (with_reducible assumption)); (conv => whnf))
        | (refine hX _ _ _ _ _ _ ?_; (conv => whnf); fail_if_success show False)
        | (rw [t_si]; (conv => whnf))
        | (refine ⟨_, rfl, ?_⟩; (conv => whnf))
        | (refine ⟨_, _, rfl, ?_⟩; (conv => whnf))
        | (refine ⟨_, _, _, rfl, ?_⟩; (conv => whnf))
        | (refine ⟨_, _, _, _, rfl, ?_⟩; (conv => whnf))
        | fail)
      refine And.intro (fun c => ?_) (fun c => ?_) <;> (conv => whnf)
      · repeat' (first
          | ((with_reducible refine @And.intro (vp_in _ _) _ ?_ ?_); (· (first | with_reducible assumption | ((with_reducible refine t_vin ?_); decide) | ((with_reducible refine vp_in_nI ?_ ?_) <;> first | omega | decide) | (simp (disch := omega) only [xl_n, xl_m, nI_dec, nI_sb, nI_add, pk_mul]; (with_reducible refine vp_in_nI ?_ ?_) <;> first | omega | decide))); (conv => whnf))
          | (refine And.intro (by first | with_reducible assumption | exact (show tL _ = _ from rfl) | decide) ?_; (conv => whnf))
          | ((with_reducible refine @And.intro (_ = _) _ ?_ ?_); (· rfl); (conv => whnf))
          | ((with_reducible refine @And.intro (@LE.le Nat _ _ _) _ ?_ ?_); (· (first | exact Nat.zero_le _ | exact Nat.le_of_ble_eq_true rfl | omega)); (conv => whnf))
          | ((with_reducible refine @And.intro (@LT.lt Nat _ _ _) _ ?_ ?_); (· omega); (conv => whnf))
          | ((with_reducible refine @And.intro (∃ _, _ = _) _ ?_ ?_); (· exact ⟨_, rfl⟩); (conv => whnf))
          | ((with_reducible refine @And.intro (_ ∨ _) _ ?_ ?_); (· (first | exact Or.inl rfl | exact Or.inr rfl | exact t_b01 _ | assumption)); (conv => whnf))
          | ((with_reducible refine @And.intro (¬ (_ = _)) _ ?_ ?_); (· first | assumption | (with_reducible assumption)); (conv => whnf))
          | (refine hX _ _ _ _ _ _ ?_; (conv => whnf); fail_if_success show False)
          | (rw [t_si]; (conv => whnf))
          | (refine ⟨_, rfl, ?_⟩; (conv => whnf))
          | (refine ⟨_, _, rfl, ?_⟩; (conv => whnf))
          | (refine ⟨_, _, _, rfl, ?_⟩; (conv => whnf))
          | (refine ⟨_, _, _, _, rfl, ?_⟩; (conv => whnf))
          | fail)
        have : k = 60 := Nat.le_antisymm h1 (t_kge (n := 60) rfl c (by omega) (by omega))
        subst this
        refine t_ask hQ hg hM h0 ?_
        exact (xl_m.trans hA)
      · have hk : k < 60 := t_klt (n := 60) rfl c (by omega)
        repeat' (first
          | ((with_reducible refine @And.intro (vp_in _ _) _ ?_ ?_); (· (first | with_reducible assumption | ((with_reducible refine t_vin ?_); decide) | ((with_reducible refine vp_in_nI ?_ ?_) <;> first | omega | decide) | (simp (disch := omega) only [xl_n, xl_m, nI_dec, nI_sb, nI_add, pk_mul]; (with_reducible refine vp_in_nI ?_ ?_) <;> first | omega | decide))); (conv => whnf))
          | (refine And.intro (by first | with_reducible assumption | exact (show tL _ = _ from rfl) | decide) ?_; (conv => whnf))
          | ((with_reducible refine @And.intro (_ = _) _ ?_ ?_); (· rfl); (conv => whnf))
          | ((with_reducible refine @And.intro (@LE.le Nat _ _ _) _ ?_ ?_); (· (first | exact Nat.zero_le _ | exact Nat.le_of_ble_eq_true rfl | omega)); (conv => whnf))
          | ((with_reducible refine @And.intro (@LT.lt Nat _ _ _) _ ?_ ?_); (· omega); (conv => whnf))
          | ((with_reducible refine @And.intro (∃ _, _ = _) _ ?_ ?_); (· exact ⟨_, rfl⟩); (conv => whnf))
          | ((with_reducible refine @And.intro (_ ∨ _) _ ?_ ?_); (· (first | exact Or.inl rfl | exact Or.inr rfl | exact t_b01 _ | assumption)); (conv => whnf))
          | ((with_reducible refine @And.intro (¬ (_ = _)) _ ?_ ?_); (· first | assumption | (with_reducible assumption)); (conv => whnf))
          | (refine hX _ _ _ _ _ _ ?_; (conv => whnf); fail_if_success show False)
          | (rw [t_si]; (conv => whnf))
          | (refine ⟨_, rfl, ?_⟩; (conv => whnf))
          | (refine ⟨_, _, rfl, ?_⟩; (conv => whnf))
          | (refine ⟨_, _, _, rfl, ?_⟩; (conv => whnf))
          | (refine ⟨_, _, _, _, rfl, ?_⟩; (conv => whnf))
          | (refine And.intro (fun c => ?_) (fun c => ?_) <;> (first | (exact absurd c (by decide +kernel)) | (conv => whnf)))
          | fail)
        intro L hL hE
        (conv => whnf)
        have ⟨t1, t2, t3⟩ := t_try hg hM hL hE
        rw [show 60 - k = (60 - (k + 1)) + 1 by omega, g_until_s, ← t3] at hA
        have := ih (k + 1) (by omega) (by omega) L t1 (t2.trans h0)
        clear ih
        repeat' (first
          | ((with_reducible refine @And.intro (vp_in _ _) _ ?_ ?_); (· (first | with_reducible assumption | ((with_reducible refine t_vin ?_); decide) | ((with_reducible refine vp_in_nI ?_ ?_) <;> first | omega | decide) | (simp (disch := omega) only [xl_n, xl_m, nI_dec, nI_sb, nI_add, pk_mul]; (with_reducible refine vp_in_nI ?_ ?_) <;> first | omega | decide))); (conv => whnf))
          | (refine And.intro (by first | with_reducible assumption | exact (show tL _ = _ from rfl) | decide) ?_; (conv => whnf))
          | ((with_reducible refine @And.intro (_ = _) _ ?_ ?_); (· rfl); (conv => whnf))
          | ((with_reducible refine @And.intro (@LE.le Nat _ _ _) _ ?_ ?_); (· (first | exact Nat.zero_le _ | exact Nat.le_of_ble_eq_true rfl | omega)); (conv => whnf))
          | ((with_reducible refine @And.intro (@LT.lt Nat _ _ _) _ ?_ ?_); (· omega); (conv => whnf))
          | ((with_reducible refine @And.intro (∃ _, _ = _) _ ?_ ?_); (· exact ⟨_, rfl⟩); (conv => whnf))
          | ((with_reducible refine @And.intro (_ ∨ _) _ ?_ ?_); (· (first | exact Or.inl rfl | exact Or.inr rfl | exact t_b01 _ | assumption)); (conv => whnf))
          | ((with_reducible refine @And.intro (¬ (_ = _)) _ ?_ ?_); (· first | assumption | (with_reducible assumption)); (conv => whnf))
          | (refine hX _ _ _ _ _ _ ?_; (conv => whnf); fail_if_success show False)
          | (rw [t_si]; (conv => whnf))
          | (refine ⟨_, rfl, ?_⟩; (conv => whnf))
          | (refine ⟨_, _, rfl, ?_⟩; (conv => whnf))
          | (refine ⟨_, _, _, rfl, ?_⟩; (conv => whnf))
          | (refine ⟨_, _, _, _, rfl, ?_⟩; (conv => whnf))
          | (refine And.intro (fun c => ?_) (fun c => ?_) <;> (first | (exact absurd c (by decide +kernel)) | (conv => whnf)))
          | fail)
        · clear hX hG
          simp (disch := omega) only [xl_n, xl_m, nI_dec, nI_sb, xl_0, xl_1, tW_i, t_bn0, t_bn1, Classical.not_not, t_lt, nI_add, nI_1, pk_mul, nI_clamp, t_si, nI_eq, nI_leI, nM_ne, nM_ne, xm_set, xm_lv0, xm_psh] at *
          rw [if_neg (by rw [tA_gs (by omega)]; simpa using c)] at hA
          exact this hA
        · refine t_ask hQ hg t1 (t2.trans h0) ?_
          clear hX hG this
          simp (disch := omega) only [xl_n, xl_m, nI_dec, nI_sb, xl_0, xl_1, tW_i, t_bn0, t_bn1, Classical.not_not, t_lt, nI_add, nI_1, pk_mul, nI_clamp, t_si, nI_eq, nI_leI, nM_ne, nM_ne] at *
          rw [if_pos (by rw [tA_gs (by omega)]; simpa using c)] at hA
          exact hA
    repeat' (first
      | ((with_reducible refine @And.intro (vp_in _ _) _ ?_ ?_); (· (first | with_reducible assumption | ((with_reducible refine t_vin ?_); decide) | ((with_reducible refine vp_in_nI ?_ ?_) <;> first | omega | decide) | (simp (disch := omega) only [xl_n, xl_m, nI_dec, nI_sb, nI_add, pk_mul]; (with_reducible refine vp_in_nI ?_ ?_) <;> first | omega | decide))); (conv => whnf))
      | (refine And.intro (by first | with_reducible assumption | exact (show tL _ = _ from rfl) | decide) ?_; (conv => whnf))
      | ((with_reducible refine @And.intro (_ = _) _ ?_ ?_); (· rfl); (conv => whnf))
      | ((with_reducible refine @And.intro (@LE.le Nat _ _ _) _ ?_ ?_); (· (first | exact Nat.zero_le _ | exact Nat.le_of_ble_eq_true rfl | omega)); (conv => whnf))
      | ((with_reducible refine @And.intro (@LT.lt Nat _ _ _) _ ?_ ?_); (· omega); (conv => whnf))
      | ((with_reducible refine @And.intro (∃ _, _ = _) _ ?_ ?_); (· exact ⟨_, rfl⟩); (conv => whnf))
      | ((with_reducible refine @And.intro (_ ∨ _) _ ?_ ?_); (· (first | exact Or.inl rfl | exact Or.inr rfl | exact t_b01 _ | assumption)); (conv => whnf))
      | ((with_reducible refine @And.intro (¬ (_ = _)) _ ?_ ?_); (· first | assumption | (with_reducible assumption)); (conv => whnf))
      | (refine hX _ _ _ _ _ _ ?_; (conv => whnf); fail_if_success show False)
      | (rw [t_si]; (conv => whnf))
      | (refine ⟨_, rfl, ?_⟩; (conv => whnf))
      | (refine ⟨_, _, rfl, ?_⟩; (conv => whnf))
      | (refine ⟨_, _, _, rfl, ?_⟩; (conv => whnf))
      | (refine ⟨_, _, _, _, rfl, ?_⟩; (conv => whnf))
      | (rw [e1]; (conv => whnf))
      | (refine And.intro (fun c => ?_) (fun c => ?_) <;> (first | (exact absurd c (by decide +kernel)) | (conv => whnf)))
      | fail)
    · intro M hM hk
      (conv => whnf)
      repeat' (first
        | ((with_reducible refine @And.intro (vp_in _ _) _ ?_ ?_); (· (first | with_reducible assumption | ((with_reducible refine t_vin ?_); decide) | ((with_reducible refine vp_in_nI ?_ ?_) <;> first | omega | decide) | (simp (disch := omega) only [xl_n, xl_m, nI_dec, nI_sb, nI_add, pk_mul]; (with_reducible refine vp_in_nI ?_ ?_) <;> first | omega | decide))); (conv => whnf))
        | (refine And.intro (by first | with_reducible assumption | exact (show tL _ = _ from rfl) | decide) ?_; (conv => whnf))
        | ((with_reducible refine @And.intro (_ = _) _ ?_ ?_); (· rfl); (conv => whnf))
        | ((with_reducible refine @And.intro (@LE.le Nat _ _ _) _ ?_ ?_); (· (first | exact Nat.zero_le _ | exact Nat.le_of_ble_eq_true rfl | omega)); (conv => whnf))
        | ((with_reducible refine @And.intro (@LT.lt Nat _ _ _) _ ?_ ?_); (· omega); (conv => whnf))
        | ((with_reducible refine @And.intro (∃ _, _ = _) _ ?_ ?_); (· exact ⟨_, rfl⟩); (conv => whnf))
        | ((with_reducible refine @And.intro (_ ∨ _) _ ?_ ?_); (· (first | exact Or.inl rfl | exact Or.inr rfl | exact t_b01 _ | assumption)); (conv => whnf))
        | ((with_reducible refine @And.intro (¬ (_ = _)) _ ?_ ?_); (· first | assumption | (with_reducible assumption)); (conv => whnf))
        | (refine hX _ _ _ _ _ _ ?_; (conv => whnf); fail_if_success show False)
        | (rw [t_si]; (conv => whnf))
        | (refine ⟨_, rfl, ?_⟩; (conv => whnf))
        | (refine ⟨_, _, rfl, ?_⟩; (conv => whnf))
        | (refine ⟨_, _, _, rfl, ?_⟩; (conv => whnf))
        | (refine ⟨_, _, _, _, rfl, ?_⟩; (conv => whnf))
        | (refine And.intro (fun c => ?_) (fun c => ?_) <;> (first | (exact absurd c (by decide +kernel)) | (conv => whnf)))
        | fail)
      refine loop ?_ 0 (Nat.zero_le _) M ((hM.sc (by decide)).sl.sp t_f39) (by rw [hM 0 (by decide)]; exact h01) (by rw [t_copy hM hk])
      clear hX hG loop
      simp (disch := omega) only [xl_n, xl_m, nI_dec, nI_sb, xl_0, xl_1, tW_i, t_bn0, t_bn1, Classical.not_not, t_lt, nI_add, nI_1, pk_mul, nI_clamp, t_si, nI_eq, nI_leI, nM_ne, nM_ne] at *
      assumption
    · refine t_ask hQ hg t_sp.rf h01 ?_
      clear hX hG loop
      simp (disch := omega) only [xl_n, xl_m, nI_dec, nI_sb, xl_0, xl_1, tW_i, t_bn0, t_bn1, Classical.not_not, t_lt, nI_add, nI_1, pk_mul, nI_clamp, t_si, nI_eq, nI_leI, nM_ne, nM_ne] at *
      rw [if_pos c]
  · rw [q_fades] at hQ
    repeat' (first
      | ((with_reducible refine @And.intro (vp_in _ _) _ ?_ ?_); (· (first | with_reducible assumption | ((with_reducible refine t_vin ?_); decide) | ((with_reducible refine vp_in_nI ?_ ?_) <;> first | omega | decide) | (simp (disch := omega) only [xl_n, xl_m, nI_dec, nI_sb, nI_add, pk_mul]; (with_reducible refine vp_in_nI ?_ ?_) <;> first | omega | decide))); (conv => whnf))
      | (refine And.intro (by first | with_reducible assumption | exact (show tL _ = _ from rfl) | decide) ?_; (conv => whnf))
      | ((with_reducible refine @And.intro (_ = _) _ ?_ ?_); (· rfl); (conv => whnf))
      | ((with_reducible refine @And.intro (@LE.le Nat _ _ _) _ ?_ ?_); (· (first | exact Nat.zero_le _ | exact Nat.le_of_ble_eq_true rfl | omega)); (conv => whnf))
      | ((with_reducible refine @And.intro (@LT.lt Nat _ _ _) _ ?_ ?_); (· omega); (conv => whnf))
      | ((with_reducible refine @And.intro (∃ _, _ = _) _ ?_ ?_); (· exact ⟨_, rfl⟩); (conv => whnf))
      | ((with_reducible refine @And.intro (_ ∨ _) _ ?_ ?_); (· (first | exact Or.inl rfl | exact Or.inr rfl | exact t_b01 _ | assumption)); (conv => whnf))
      | ((with_reducible refine @And.intro (¬ (_ = _)) _ ?_ ?_); (· first | assumption | (with_reducible assumption)); (conv => whnf))
      | (refine hX _ _ _ _ _ _ ?_; (conv => whnf); fail_if_success show False)
      | (rw [t_si]; (conv => whnf))
      | (refine ⟨_, rfl, ?_⟩; (conv => whnf))
      | (refine ⟨_, _, rfl, ?_⟩; (conv => whnf))
      | (refine ⟨_, _, _, rfl, ?_⟩; (conv => whnf))
      | (refine ⟨_, _, _, _, rfl, ?_⟩; (conv => whnf))
      | (rw [e1]; (conv => whnf))
      | (refine And.intro (fun c => ?_) (fun c => ?_) <;> (first | (exact absurd c (by decide +kernel)) | (conv => whnf)))
      | fail)
    exact t_ref' hQ hg h01 (by simp [f1]) (by decide) rfl rfl
theorem ct_X11_fades {Iv : xI} (hI : xm_good Iv) : xm_Ct Iv yX11_fades (ws_ yX11_fades cX11_fades 3 (some .int)) 7 0 0 S_X11_fades := xm_enter (rt := 0) (init := false) (by decide +kernel) rfl (fun h => by cases h) (Or.inl ⟨rfl, rfl⟩) (oX11_fades hI) body_X11_fades
theorem cv_X11_fades {Iv : xI} {own : String} {cc : ByteArray} {fr pc idx : Nat} (hI : xm_good Iv) (hdg : decode cc pc = .ok (.invokevirtual idx, 3)) (hl : xm_ml own idx yX11_fades) (hfr : 7 < fr) : xm_CallOK Iv own cc fr pc (pc + 3) 2 0 0 (xm_this 8 S_X11_fades) := xm_callV 8 hI (ct_X11_fades hI) hdg hl q2441 q2442 q145 q2443 rfl rfl (by decide +kernel) hfr (by decide)
def q_heir (G : gG) (a b : Int32) : gR := g_ck G (g_isP G a && g_isH G b) (nI 1) 0 (g_says G (if t_has (gw (gnow G) a.toNatClampNeg) b.toNatClampNeg = true then t_o (g_chosen (gGK G) (g_die (gGK G) (gnow G) b.toNatClampNeg) a.toNatClampNeg) else nM))
abbrev bX11_heir_0 : List xE := [(.aload_n 0, 1, 0, 0, 0), (.iconst 0, 2, 0, 0, 0), (.putfield 134, 5, 8, 0, 0), (.aload_n 0, 6, 0, 0, 0), (.aload_n 0, 7, 0, 0, 0), (.iload_n 1, 8, 0, 0, 0), (.invokevirtual 338, 11, 0, 0, 9), (.ifCond .eq 11, 14, 0, 22, 0), (.aload_n 0, 15, 0, 0, 0), (.iload_n 2, 16, 0, 0, 0), (.invokevirtual 331, 19, 0, 1, 9), (.ifCond .ne 7, 22, 0, 26, 0)]
abbrev bX11_heir_22 : List xE := [(.iconst 1, 23, 0, 0, 0), (.goto 4, 26, 0, 27, 0)]
abbrev bX11_heir_26 : List xE := [(.iconst 0, 27, 0, 0, 0)]
abbrev bX11_heir_27 : List xE := [(.iconst 1, 28, 0, 0, 0), (.iconst 0, 29, 0, 0, 0), (.invokevirtual 249, 32, 0, 2, 9), (.ifCond .eq 5, 35, 0, 37, 0), (.iconst 0, 36, 0, 0, 0), (.ireturn, 37, 0, 0, 0)]
abbrev bX11_heir_37 : List xE := [(.aload_n 0, 38, 0, 0, 0), (.getfield 91, 41, 8, 36, 1), (.iconst 1, 42, 0, 0, 0), (.iload_n 1, 43, 0, 0, 0), (.iadd, 44, 0, 0, 0), (.iaload, 45, 0, 0, 0), (.iload_n 2, 46, 0, 0, 0), (.invokestatic 242, 49, 0, 3, 9), (.ifCond .ne 5, 52, 0, 54, 0), (.iconst (-1), 53, 0, 0, 0), (.ireturn, 54, 0, 0, 0)]
abbrev bX11_heir_54 : List xE := [(.aload_n 0, 55, 0, 0, 0), (.getfield 91, 58, 8, 36, 1), (.aload_n 0, 59, 0, 0, 0), (.getfield 100, 62, 8, 39, 1), (.invokestatic 266, 65, 0, 4, 9), (.aload_n 0, 66, 0, 0, 0), (.aload_n 0, 67, 0, 0, 0), (.getfield 100, 70, 8, 39, 1), (.iload_n 2, 71, 0, 0, 0), (.invokevirtual 378, 74, 0, 5, 9), (.aload_n 0, 75, 0, 0, 0), (.aload_n 0, 76, 0, 0, 0), (.getfield 100, 79, 8, 39, 1), (.iload_n 1, 80, 0, 0, 0), (.invokevirtual 364, 83, 0, 6, 9), (.ireturn, 84, 0, 0, 0)]
abbrev kX11_heir : List (Nat × List xE) := [(0, bX11_heir_0), (22, bX11_heir_22), (26, bX11_heir_26), (27, bX11_heir_27), (37, bX11_heir_37), (54, bX11_heir_54)]
abbrev lX11_heir : List (Nat × Nat × Nat × xS) := [(2, 0, 0, xm_this 8 S_X11_isPuppet), (2, 0, 0, xm_this 8 S_X11_isHand), (4, 0, 0, xm_this 8 S_X11_bad), (2, 0, 0, S_X11_has), (2, 0, 0, S_X11_copies), (3, 0, 0, xm_this 8 S_X11_diesOf), (3, 0, 0, xm_this 8 S_X11_chosen)]
theorem oX11_heir_0 {Iv : xI} (hI : xm_good Iv)  : xm_okb Iv RX11 cX11_heir false 6 lX11_heir bX11_heir_0 0 := xo_0 dX11_heir_0 rfl trivial (xo_0 dX11_heir_1 rfl trivial (xo_0 dX11_heir_2 rfl (xm_fp_of (xm_fg_of (Or.inl q1955) (by decide) rfl (by decide) rfl rfl (Or.inl rfl) rfl) (by decide) rfl (Or.inl ⟨rfl, rfl⟩) rfl) (xo_0 dX11_heir_5 rfl trivial (xo_0 dX11_heir_6 rfl trivial (xo_0 dX11_heir_7 rfl trivial (xo_c rfl (cv_X11_isPuppet hI dX11_heir_8 (Or.inl q2319) (by decide)) (xo_0 dX11_heir_11 rfl rfl (xo_0 dX11_heir_14 rfl trivial (xo_0 dX11_heir_15 rfl trivial (xo_c rfl (cv_X11_isHand hI dX11_heir_16 (Or.inl q2304) (by decide)) (xo_0 dX11_heir_19 rfl rfl (xo_n))))))))))))
theorem oX11_heir_22 {Iv : xI} (hI : xm_good Iv)  : xm_okb Iv RX11 cX11_heir false 6 lX11_heir bX11_heir_22 22 := xo_0 dX11_heir_22 rfl trivial (xo_0 dX11_heir_23 rfl rfl (xo_n))
theorem oX11_heir_26 {Iv : xI} (hI : xm_good Iv)  : xm_okb Iv RX11 cX11_heir false 6 lX11_heir bX11_heir_26 26 := xo_0 dX11_heir_26 rfl trivial (xo_n)
theorem oX11_heir_27 {Iv : xI} (hI : xm_good Iv)  : xm_okb Iv RX11 cX11_heir false 6 lX11_heir bX11_heir_27 27 := xo_0 dX11_heir_27 rfl trivial (xo_0 dX11_heir_28 rfl trivial (xo_c rfl (cv_X11_bad hI dX11_heir_29 (Or.inl q2137) (by decide)) (xo_0 dX11_heir_32 rfl rfl (xo_0 dX11_heir_35 rfl trivial (xo_0 dX11_heir_36 rfl trivial (xo_n))))))
theorem oX11_heir_37 {Iv : xI} (hI : xm_good Iv)  : xm_okb Iv RX11 cX11_heir false 6 lX11_heir bX11_heir_37 37 := xo_0 dX11_heir_37 rfl trivial (xo_1 dX11_heir_38 rfl (xm_fg_of (Or.inl q1991) (by decide) rfl (by decide) rfl rfl (Or.inl rfl) rfl) (xo_0 dX11_heir_41 rfl trivial (xo_0 dX11_heir_42 rfl trivial (xo_0 dX11_heir_43 rfl trivial (xo_0 dX11_heir_44 rfl trivial (xo_0 dX11_heir_45 rfl trivial (xo_c rfl (cv_X11_has hI dX11_heir_46 (Or.inl q1945) (by decide)) (xo_0 dX11_heir_49 rfl rfl (xo_0 dX11_heir_52 rfl trivial (xo_0 dX11_heir_53 rfl trivial (xo_n)))))))))))
theorem oX11_heir_54 {Iv : xI} (hI : xm_good Iv)  : xm_okb Iv RX11 cX11_heir false 6 lX11_heir bX11_heir_54 54 := xo_0 dX11_heir_54 rfl trivial (xo_1 dX11_heir_55 rfl (xm_fg_of (Or.inl q1991) (by decide) rfl (by decide) rfl rfl (Or.inl rfl) rfl) (xo_0 dX11_heir_58 rfl trivial (xo_1 dX11_heir_59 rfl (xm_fg_of (Or.inl q1994) (by decide) rfl (by decide) rfl rfl (Or.inl rfl) rfl) (xo_c rfl (cv_X11_copies hI dX11_heir_62 (Or.inl q1948) (by decide)) (xo_0 dX11_heir_65 rfl trivial (xo_0 dX11_heir_66 rfl trivial (xo_1 dX11_heir_67 rfl (xm_fg_of (Or.inl q1994) (by decide) rfl (by decide) rfl rfl (Or.inl rfl) rfl) (xo_0 dX11_heir_70 rfl trivial (xo_c rfl (cv_X11_diesOf hI dX11_heir_71 (Or.inl q2383) (by decide)) (xo_0 dX11_heir_74 rfl trivial (xo_0 dX11_heir_75 rfl trivial (xo_1 dX11_heir_76 rfl (xm_fg_of (Or.inl q1994) (by decide) rfl (by decide) rfl rfl (Or.inl rfl) rfl) (xo_0 dX11_heir_79 rfl trivial (xo_c rfl (cv_X11_chosen hI dX11_heir_80 (Or.inl q2362) (by decide)) (xo_0 dX11_heir_83 rfl trivial (xo_n))))))))))))))))
theorem oX11_heir {Iv : xI} (hI : xm_good Iv)  : ∀ q ∈ kX11_heir, xm_okb Iv RX11 cX11_heir false 6 lX11_heir q.2 q.1 := by
  intro q hq
  simp only [List.mem_cons, List.not_mem_nil, or_false] at hq
  rcases hq with rfl | rfl | rfl | rfl | rfl | rfl
  · exact oX11_heir_0 hI  
  · exact oX11_heir_22 hI  
  · exact oX11_heir_26 hI  
  · exact oX11_heir_27 hI  
  · exact oX11_heir_37 hI  
  · exact oX11_heir_54 hI  
def S_X11_heir : xS := tU fun as I Q => ∃ a b, as = [.ref 0, .int a, .int b] ∧ t_good I ∧ t_P Q (q_heir (tG I) a b)
theorem body_X11_heir : xm_Body 3 0 0 0 [] lX11_heir kX11_heir S_X11_heir := by
  intro X avs w Q QX hX0 hS
  have hG := xm_go [] hX0
  have hX := xm_go [] hX0
  clear hX0
  obtain ⟨I, rfl, a, b, rfl, hg, hQ⟩ := hS
  refine ⟨rfl, ?_⟩
  repeat' (first
    | ((with_reducible refine @And.intro (vp_in _ _) _ ?_ ?_); (· (first | with_reducible assumption | ((with_reducible refine t_vin ?_); decide) | ((with_reducible refine vp_in_nI ?_ ?_) <;> first | omega | decide) | (simp (disch := omega) only [xl_n, xl_m, nI_dec, nI_sb, nI_add, pk_mul]; (with_reducible refine vp_in_nI ?_ ?_) <;> first | omega | decide))); (conv => whnf))
    | (refine And.intro (by first | with_reducible assumption | exact (show tL _ = _ from rfl) | decide) ?_; (conv => whnf))
    | ((with_reducible refine @And.intro (_ = _) _ ?_ ?_); (· rfl); (conv => whnf))
    | ((with_reducible refine @And.intro (@LE.le Nat _ _ _) _ ?_ ?_); (· (first | exact Nat.zero_le _ | exact Nat.le_of_ble_eq_true rfl | omega)); (conv => whnf))
    | ((with_reducible refine @And.intro (@LT.lt Nat _ _ _) _ ?_ ?_); (· omega); (conv => whnf))
    | ((with_reducible refine @And.intro (∃ _, _ = _) _ ?_ ?_); (· exact ⟨_, rfl⟩); (conv => whnf))
    | ((with_reducible refine @And.intro (_ ∨ _) _ ?_ ?_); (· (first | exact Or.inl rfl | exact Or.inr rfl | exact t_b01 _ | assumption)); (conv => whnf))
    | ((with_reducible refine @And.intro (¬ (_ = _)) _ ?_ ?_); (· first | assumption | (with_reducible assumption)); (conv => whnf))
    | (refine hX _ _ _ _ _ _ ?_; (conv => whnf); fail_if_success show False)
    | fail)
  rw [t_si]
  obtain ⟨J, hJ, hg1, hG1, h01⟩ := t_pub hg
  rw [← hJ]
  rw [← hG1] at hQ
  clear hJ hG1 hg I
  have hg := hg1
  have hok := hg.1
  have hl := hg.2.1
  have h8 := hok.2.2.2.1
  have h9 := hok.2.1
  (conv => whnf)
  rcases t_pc hg a with ⟨p, hp, rfl, e1, f1⟩ | ⟨e1, f1⟩
  · rcases t_hc hg b with ⟨h, hh, rfl, e2, f2⟩ | ⟨e2, f2⟩
    · rw [q_heir, f1, f2, nI_clamp (by omega), nI_clamp (by omega)] at hQ
      repeat' (first
        | ((with_reducible refine @And.intro (vp_in _ _) _ ?_ ?_); (· (first | with_reducible assumption | ((with_reducible refine t_vin ?_); decide) | ((with_reducible refine vp_in_nI ?_ ?_) <;> first | omega | decide) | (simp (disch := omega) only [xl_n, xl_m, nI_dec, nI_sb, nI_add, pk_mul]; (with_reducible refine vp_in_nI ?_ ?_) <;> first | omega | decide))); (conv => whnf))
        | (refine And.intro (by first | with_reducible assumption | exact (show tL _ = _ from rfl) | decide) ?_; (conv => whnf))
        | ((with_reducible refine @And.intro (_ = _) _ ?_ ?_); (· rfl); (conv => whnf))
        | ((with_reducible refine @And.intro (@LE.le Nat _ _ _) _ ?_ ?_); (· (first | exact Nat.zero_le _ | exact Nat.le_of_ble_eq_true rfl | omega)); (conv => whnf))
        | ((with_reducible refine @And.intro (@LT.lt Nat _ _ _) _ ?_ ?_); (· omega); (conv => whnf))
        | ((with_reducible refine @And.intro (∃ _, _ = _) _ ?_ ?_); (· exact ⟨_, rfl⟩); (conv => whnf))
        | ((with_reducible refine @And.intro (_ ∨ _) _ ?_ ?_); (· (first | exact Or.inl rfl | exact Or.inr rfl | exact t_b01 _ | assumption)); (conv => whnf))
        | ((with_reducible refine @And.intro (¬ (_ = _)) _ ?_ ?_); (· first | assumption | (with_reducible assumption)); (conv => whnf))
        | (refine hX _ _ _ _ _ _ ?_; (conv => whnf); fail_if_success show False)
        | (rw [t_si]; (conv => whnf))
        | (refine ⟨_, rfl, ?_⟩; (conv => whnf))
        | (refine ⟨_, _, rfl, ?_⟩; (conv => whnf))
        | (refine ⟨_, _, _, rfl, ?_⟩; (conv => whnf))
        | (refine ⟨_, _, _, _, rfl, ?_⟩; (conv => whnf))
        | (rw [e1]; (conv => whnf))
        | (rw [e2]; (conv => whnf))
        | (refine And.intro (fun c => ?_) (fun c => ?_) <;> (first | (exact absurd c (by decide +kernel)) | (conv => whnf)))
        | fail)
      · intro M hM hk
        (conv => whnf)
        have s1 : t_sp J M := (hM.sc (by decide)).sl.sp t_f39
        have hgM := s1.good hg
        have hokM := hgM.1
        have hlM := hgM.2.1
        repeat' (first
          | ((with_reducible refine @And.intro (vp_in _ _) _ ?_ ?_); (· (first | with_reducible assumption | ((with_reducible refine t_vin ?_); decide) | ((with_reducible refine vp_in_nI ?_ ?_) <;> first | omega | decide) | (simp (disch := omega) only [xl_n, xl_m, nI_dec, nI_sb, nI_add, pk_mul]; (with_reducible refine vp_in_nI ?_ ?_) <;> first | omega | decide))); (conv => whnf))
          | (refine And.intro (by first | with_reducible assumption | exact (show tL _ = _ from rfl) | decide) ?_; (conv => whnf))
          | ((with_reducible refine @And.intro (_ = _) _ ?_ ?_); (· rfl); (conv => whnf))
          | ((with_reducible refine @And.intro (@LE.le Nat _ _ _) _ ?_ ?_); (· (first | exact Nat.zero_le _ | exact Nat.le_of_ble_eq_true rfl | omega)); (conv => whnf))
          | ((with_reducible refine @And.intro (@LT.lt Nat _ _ _) _ ?_ ?_); (· omega); (conv => whnf))
          | ((with_reducible refine @And.intro (∃ _, _ = _) _ ?_ ?_); (· exact ⟨_, rfl⟩); (conv => whnf))
          | ((with_reducible refine @And.intro (_ ∨ _) _ ?_ ?_); (· (first | exact Or.inl rfl | exact Or.inr rfl | exact t_b01 _ | assumption)); (conv => whnf))
          | ((with_reducible refine @And.intro (¬ (_ = _)) _ ?_ ?_); (· first | assumption | (with_reducible assumption)); (conv => whnf))
          | (refine hX _ _ _ _ _ _ ?_; (conv => whnf); fail_if_success show False)
          | (rw [t_si]; (conv => whnf))
          | (refine ⟨_, rfl, ?_⟩; (conv => whnf))
          | (refine ⟨_, _, rfl, ?_⟩; (conv => whnf))
          | (refine ⟨_, _, _, rfl, ?_⟩; (conv => whnf))
          | (refine ⟨_, _, _, _, rfl, ?_⟩; (conv => whnf))
          | (refine And.intro (fun c => ?_) (fun c => ?_) <;> (first | (exact absurd c (by decide +kernel)) | (conv => whnf)))
          | fail)
        intro L hL hA
        (conv => whnf)
        have s2 : t_sp J L := s1.tr ((hL.sc (by decide)).sl.sp t_f39)
        have hgL := s2.good hg
        have hokL := hgL.1
        have hlL := hgL.2.1
        have hpL : p < t_p L := by rw [t_p_eq (s2.fx 12 (Or.inl rfl))]; exact hp
        repeat' (first
          | ((with_reducible refine @And.intro (vp_in _ _) _ ?_ ?_); (· (first | with_reducible assumption | ((with_reducible refine t_vin ?_); decide) | ((with_reducible refine vp_in_nI ?_ ?_) <;> first | omega | decide) | (simp (disch := omega) only [xl_n, xl_m, nI_dec, nI_sb, nI_add, pk_mul]; (with_reducible refine vp_in_nI ?_ ?_) <;> first | omega | decide))); (conv => whnf))
          | (refine And.intro (by first | with_reducible assumption | exact (show tL _ = _ from rfl) | decide) ?_; (conv => whnf))
          | ((with_reducible refine @And.intro (_ = _) _ ?_ ?_); (· rfl); (conv => whnf))
          | ((with_reducible refine @And.intro (@LE.le Nat _ _ _) _ ?_ ?_); (· (first | exact Nat.zero_le _ | exact Nat.le_of_ble_eq_true rfl | omega)); (conv => whnf))
          | ((with_reducible refine @And.intro (@LT.lt Nat _ _ _) _ ?_ ?_); (· omega); (conv => whnf))
          | ((with_reducible refine @And.intro (∃ _, _ = _) _ ?_ ?_); (· exact ⟨_, rfl⟩); (conv => whnf))
          | ((with_reducible refine @And.intro (_ ∨ _) _ ?_ ?_); (· (first | exact Or.inl rfl | exact Or.inr rfl | exact t_b01 _ | assumption)); (conv => whnf))
          | ((with_reducible refine @And.intro (¬ (_ = _)) _ ?_ ?_); (· first | assumption | (with_reducible assumption)); (conv => whnf))
          | (refine hX _ _ _ _ _ _ ?_; (conv => whnf); fail_if_success show False)
          | (rw [t_si]; (conv => whnf))
          | (refine ⟨_, rfl, ?_⟩; (conv => whnf))
          | (refine ⟨_, _, rfl, ?_⟩; (conv => whnf))
          | (refine ⟨_, _, _, rfl, ?_⟩; (conv => whnf))
          | (refine ⟨_, _, _, _, rfl, ?_⟩; (conv => whnf))
          | (refine And.intro (fun c => ?_) (fun c => ?_) <;> (first | (exact absurd c (by decide +kernel)) | (conv => whnf)))
          | fail)
        intro N hN
        (conv => whnf)
        have n0 : N 0 0 = nI 0 := by rw [hN.2 0 (by unfold t_scf; omega), hL 0 (by decide), hM 0 (by decide)]; exact h01
        refine t_ask hQ hg (s2.tr (hN.sl.sp t_f34)) n0 ?_
        rw [hA, t_copy hM hk, s2.same.K hg, s1.same.K hg]
        clear hX hG hQ
        simp (disch := omega) only [xl_n, xl_m, nI_dec, nI_sb, xl_0, xl_1, tW_i, t_bn0, t_bn1, Classical.not_not, t_lt, nI_add, nI_1, pk_mul, nI_clamp, t_si, nI_eq, nI_leI, nM_ne, nM_ne] at *
        show _ = if _ then _ else _
        rw [if_pos (by rw [show gnow (tG J) = tA J 36 from rfl, tA_gw (by omega)]; simpa using c)]
        rfl
      · refine t_ask hQ hg t_sp.rf h01 ?_
        clear hX hG hQ
        simp (disch := omega) only [xl_n, xl_m, nI_dec, nI_sb, xl_0, xl_1, tW_i, t_bn0, t_bn1, Classical.not_not, t_lt, nI_add, nI_1, pk_mul, nI_clamp, t_si, nI_eq, nI_leI, nM_ne, nM_ne] at *
        show _ = if _ then _ else _
        rw [if_neg (by rw [show gnow (tG J) = tA J 36 from rfl, tA_gw (by omega)]; simpa using c)]
    · repeat' (first
        | ((with_reducible refine @And.intro (vp_in _ _) _ ?_ ?_); (· (first | with_reducible assumption | ((with_reducible refine t_vin ?_); decide) | ((with_reducible refine vp_in_nI ?_ ?_) <;> first | omega | decide) | (simp (disch := omega) only [xl_n, xl_m, nI_dec, nI_sb, nI_add, pk_mul]; (with_reducible refine vp_in_nI ?_ ?_) <;> first | omega | decide))); (conv => whnf))
        | (refine And.intro (by first | with_reducible assumption | exact (show tL _ = _ from rfl) | decide) ?_; (conv => whnf))
        | ((with_reducible refine @And.intro (_ = _) _ ?_ ?_); (· rfl); (conv => whnf))
        | ((with_reducible refine @And.intro (@LE.le Nat _ _ _) _ ?_ ?_); (· (first | exact Nat.zero_le _ | exact Nat.le_of_ble_eq_true rfl | omega)); (conv => whnf))
        | ((with_reducible refine @And.intro (@LT.lt Nat _ _ _) _ ?_ ?_); (· omega); (conv => whnf))
        | ((with_reducible refine @And.intro (∃ _, _ = _) _ ?_ ?_); (· exact ⟨_, rfl⟩); (conv => whnf))
        | ((with_reducible refine @And.intro (_ ∨ _) _ ?_ ?_); (· (first | exact Or.inl rfl | exact Or.inr rfl | exact t_b01 _ | assumption)); (conv => whnf))
        | ((with_reducible refine @And.intro (¬ (_ = _)) _ ?_ ?_); (· first | assumption | (with_reducible assumption)); (conv => whnf))
        | (refine hX _ _ _ _ _ _ ?_; (conv => whnf); fail_if_success show False)
        | (rw [t_si]; (conv => whnf))
        | (refine ⟨_, rfl, ?_⟩; (conv => whnf))
        | (refine ⟨_, _, rfl, ?_⟩; (conv => whnf))
        | (refine ⟨_, _, _, rfl, ?_⟩; (conv => whnf))
        | (refine ⟨_, _, _, _, rfl, ?_⟩; (conv => whnf))
        | (rw [e1]; (conv => whnf))
        | (rw [e2]; (conv => whnf))
        | (refine And.intro (fun c => ?_) (fun c => ?_) <;> (first | (exact absurd c (by decide +kernel)) | (conv => whnf)))
        | fail)
      exact t_ref' hQ hg h01 (by simp [f1, f2]) (by decide) rfl rfl
  · rw [q_heir] at hQ
    repeat' (first
      | ((with_reducible refine @And.intro (vp_in _ _) _ ?_ ?_); (· (first | with_reducible assumption | ((with_reducible refine t_vin ?_); decide) | ((with_reducible refine vp_in_nI ?_ ?_) <;> first | omega | decide) | (simp (disch := omega) only [xl_n, xl_m, nI_dec, nI_sb, nI_add, pk_mul]; (with_reducible refine vp_in_nI ?_ ?_) <;> first | omega | decide))); (conv => whnf))
      | (refine And.intro (by first | with_reducible assumption | exact (show tL _ = _ from rfl) | decide) ?_; (conv => whnf))
      | ((with_reducible refine @And.intro (_ = _) _ ?_ ?_); (· rfl); (conv => whnf))
      | ((with_reducible refine @And.intro (@LE.le Nat _ _ _) _ ?_ ?_); (· (first | exact Nat.zero_le _ | exact Nat.le_of_ble_eq_true rfl | omega)); (conv => whnf))
      | ((with_reducible refine @And.intro (@LT.lt Nat _ _ _) _ ?_ ?_); (· omega); (conv => whnf))
      | ((with_reducible refine @And.intro (∃ _, _ = _) _ ?_ ?_); (· exact ⟨_, rfl⟩); (conv => whnf))
      | ((with_reducible refine @And.intro (_ ∨ _) _ ?_ ?_); (· (first | exact Or.inl rfl | exact Or.inr rfl | exact t_b01 _ | assumption)); (conv => whnf))
      | ((with_reducible refine @And.intro (¬ (_ = _)) _ ?_ ?_); (· first | assumption | (with_reducible assumption)); (conv => whnf))
      | (refine hX _ _ _ _ _ _ ?_; (conv => whnf); fail_if_success show False)
      | (rw [t_si]; (conv => whnf))
      | (refine ⟨_, rfl, ?_⟩; (conv => whnf))
      | (refine ⟨_, _, rfl, ?_⟩; (conv => whnf))
      | (refine ⟨_, _, _, rfl, ?_⟩; (conv => whnf))
      | (refine ⟨_, _, _, _, rfl, ?_⟩; (conv => whnf))
      | (rw [e1]; (conv => whnf))
      | (refine And.intro (fun c => ?_) (fun c => ?_) <;> (first | (exact absurd c (by decide +kernel)) | (conv => whnf)))
      | fail)
    exact t_ref' hQ hg h01 (by simp [f1]) (by decide) rfl rfl
theorem ct_X11_heir {Iv : xI} (hI : xm_good Iv) : xm_Ct Iv yX11_heir (ws_ yX11_heir cX11_heir 3 (some .int)) 6 0 0 S_X11_heir := xm_enter (rt := 0) (init := false) (by decide +kernel) rfl (fun h => by cases h) (Or.inl ⟨rfl, rfl⟩) (oX11_heir hI) body_X11_heir
theorem cv_X11_heir {Iv : xI} {own : String} {cc : ByteArray} {fr pc idx : Nat} (hI : xm_good Iv) (hdg : decode cc pc = .ok (.invokevirtual idx, 3)) (hl : xm_ml own idx yX11_heir) (hfr : 6 < fr) : xm_CallOK Iv own cc fr pc (pc + 3) 3 0 0 (xm_this 8 S_X11_heir) := xm_callV 8 hI (ct_X11_heir hI) hdg hl q2457 q2458 q145 q2459 rfl rfl (by decide +kernel) hfr (by decide)
theorem t_settle {Q : Option Value → tI → Prop} {I L M : tI} {x v : Int32} {T : gT} (h : t_P Q (nI 0, v, g_set (tG I) T)) (hg : t_good I) (hs : t_sm I L) (h0 : L 0 0 = nI 0) (hT : tA L 36 = T) (h1 : ∀ k, k < 107 → M 37 k = L 36 k) (h2 : ∀ b, b ≠ 37 → b ≠ 0 → M b = L b) (h3 : ∀ k, k ≠ 42 → M 0 k = L 0 k) (h4 : M 0 42 = nI 0) (hx : x = v) : Q (some (.int x)) M := by
  have s : t_sm I M := hs.tr ⟨fun b a _ _ d => h2 b d a, fun k _ _ _ d => h3 k d⟩
  have e36 : tA M 36 = T := by
    rw [← hT]
    exact tA_eq fun k _ => by rw [h2 36 (by decide) (by decide)]
  have e37 : tA M 37 = tA M 36 := by
    rw [e36, ← hT]
    exact tA_eq h1
  rw [hx]
  refine h M (s.good hg) ?_ ?_
  · rw [s.set hg e37 h4, e36]
  · rw [h3 0 (by decide)]
    exact h0
def q_dies (G : gG) (a : Int32) : gR := g_ck G (g_isH G a) (nI 1) 0 (if g_al (gGK G) (gnow G) a.toNatClampNeg = true then (nI 0, t_ones (g_work (gGK G) (gnow G) a.toNatClampNeg), g_set G (g_die (gGK G) (gnow G) a.toNatClampNeg)) else g_says G nM)
abbrev bX11_dies_0 : List xE := [(.aload_n 0, 1, 0, 0, 0), (.iconst 0, 2, 0, 0, 0), (.putfield 134, 5, 8, 0, 0), (.aload_n 0, 6, 0, 0, 0), (.aload_n 0, 7, 0, 0, 0), (.iload_n 1, 8, 0, 0, 0), (.invokevirtual 331, 11, 0, 0, 9), (.ifCond .ne 7, 14, 0, 18, 0), (.iconst 1, 15, 0, 0, 0), (.goto 4, 18, 0, 19, 0)]
abbrev bX11_dies_18 : List xE := [(.iconst 0, 19, 0, 0, 0)]
abbrev bX11_dies_19 : List xE := [(.iconst 1, 20, 0, 0, 0), (.iconst 0, 21, 0, 0, 0), (.invokevirtual 249, 24, 0, 1, 9), (.ifCond .eq 5, 27, 0, 29, 0), (.iconst 0, 28, 0, 0, 0), (.ireturn, 29, 0, 0, 0)]
abbrev bX11_dies_29 : List xE := [(.aload_n 0, 30, 0, 0, 0), (.aload_n 0, 31, 0, 0, 0), (.getfield 91, 34, 8, 36, 1), (.iload_n 1, 35, 0, 0, 0), (.invokevirtual 320, 38, 0, 2, 9), (.ifCond .ne 5, 41, 0, 43, 0), (.iconst (-1), 42, 0, 0, 0), (.ireturn, 43, 0, 0, 0)]
abbrev bX11_dies_43 : List xE := [(.aload_n 0, 44, 0, 0, 0), (.aload_n 0, 45, 0, 0, 0), (.getfield 91, 48, 8, 36, 1), (.iload_n 1, 49, 0, 0, 0), (.invokevirtual 334, 52, 0, 3, 9), (.invokestatic 246, 55, 0, 4, 9), (.istore_n 2, 56, 0, 0, 0), (.aload_n 0, 57, 0, 0, 0), (.aload_n 0, 58, 0, 0, 0), (.getfield 91, 61, 8, 36, 1), (.iload_n 1, 62, 0, 0, 0), (.invokevirtual 378, 65, 0, 5, 9), (.aload_n 0, 66, 0, 0, 0), (.invokevirtual 279, 69, 0, 6, 9), (.iload_n 2, 70, 0, 0, 0), (.ireturn, 71, 0, 0, 0)]
abbrev kX11_dies : List (Nat × List xE) := [(0, bX11_dies_0), (18, bX11_dies_18), (19, bX11_dies_19), (29, bX11_dies_29), (43, bX11_dies_43)]
abbrev lX11_dies : List (Nat × Nat × Nat × xS) := [(2, 0, 0, xm_this 8 S_X11_isHand), (4, 0, 0, xm_this 8 S_X11_bad), (3, 0, 0, xm_this 8 S_X11_isAlive), (3, 0, 0, xm_this 8 S_X11_workOf), (1, 0, 0, S_X11_ones), (3, 0, 0, xm_this 8 S_X11_diesOf), (1, 0, 0, xm_this 8 S_X11_settles)]
theorem oX11_dies_0 {Iv : xI} (hI : xm_good Iv)  : xm_okb Iv RX11 cX11_dies false 3 lX11_dies bX11_dies_0 0 := xo_0 dX11_dies_0 rfl trivial (xo_0 dX11_dies_1 rfl trivial (xo_0 dX11_dies_2 rfl (xm_fp_of (xm_fg_of (Or.inl q1955) (by decide) rfl (by decide) rfl rfl (Or.inl rfl) rfl) (by decide) rfl (Or.inl ⟨rfl, rfl⟩) rfl) (xo_0 dX11_dies_5 rfl trivial (xo_0 dX11_dies_6 rfl trivial (xo_0 dX11_dies_7 rfl trivial (xo_c rfl (cv_X11_isHand hI dX11_dies_8 (Or.inl q2304) (by decide)) (xo_0 dX11_dies_11 rfl rfl (xo_0 dX11_dies_14 rfl trivial (xo_0 dX11_dies_15 rfl rfl (xo_n))))))))))
theorem oX11_dies_18 {Iv : xI} (hI : xm_good Iv)  : xm_okb Iv RX11 cX11_dies false 3 lX11_dies bX11_dies_18 18 := xo_0 dX11_dies_18 rfl trivial (xo_n)
theorem oX11_dies_19 {Iv : xI} (hI : xm_good Iv)  : xm_okb Iv RX11 cX11_dies false 3 lX11_dies bX11_dies_19 19 := xo_0 dX11_dies_19 rfl trivial (xo_0 dX11_dies_20 rfl trivial (xo_c rfl (cv_X11_bad hI dX11_dies_21 (Or.inl q2137) (by decide)) (xo_0 dX11_dies_24 rfl rfl (xo_0 dX11_dies_27 rfl trivial (xo_0 dX11_dies_28 rfl trivial (xo_n))))))
theorem oX11_dies_29 {Iv : xI} (hI : xm_good Iv)  : xm_okb Iv RX11 cX11_dies false 3 lX11_dies bX11_dies_29 29 := xo_0 dX11_dies_29 rfl trivial (xo_0 dX11_dies_30 rfl trivial (xo_1 dX11_dies_31 rfl (xm_fg_of (Or.inl q1991) (by decide) rfl (by decide) rfl rfl (Or.inl rfl) rfl) (xo_0 dX11_dies_34 rfl trivial (xo_c rfl (cv_X11_isAlive hI dX11_dies_35 (Or.inl q2292) (by decide)) (xo_0 dX11_dies_38 rfl rfl (xo_0 dX11_dies_41 rfl trivial (xo_0 dX11_dies_42 rfl trivial (xo_n))))))))
theorem oX11_dies_43 {Iv : xI} (hI : xm_good Iv)  : xm_okb Iv RX11 cX11_dies false 3 lX11_dies bX11_dies_43 43 := xo_0 dX11_dies_43 rfl trivial (xo_0 dX11_dies_44 rfl trivial (xo_1 dX11_dies_45 rfl (xm_fg_of (Or.inl q1991) (by decide) rfl (by decide) rfl rfl (Or.inl rfl) rfl) (xo_0 dX11_dies_48 rfl trivial (xo_c rfl (cv_X11_workOf hI dX11_dies_49 (Or.inl q2308) (by decide)) (xo_c rfl (cv_X11_ones hI dX11_dies_52 (Or.inl q2218) (by decide)) (xo_0 dX11_dies_55 rfl trivial (xo_0 dX11_dies_56 rfl trivial (xo_0 dX11_dies_57 rfl trivial (xo_1 dX11_dies_58 rfl (xm_fg_of (Or.inl q1991) (by decide) rfl (by decide) rfl rfl (Or.inl rfl) rfl) (xo_0 dX11_dies_61 rfl trivial (xo_c rfl (cv_X11_diesOf hI dX11_dies_62 (Or.inl q2383) (by decide)) (xo_0 dX11_dies_65 rfl trivial (xo_c rfl (cv_X11_settles hI dX11_dies_66 (Or.inl q1951) (by decide)) (xo_0 dX11_dies_69 rfl trivial (xo_0 dX11_dies_70 rfl trivial (xo_n))))))))))))))))
theorem oX11_dies {Iv : xI} (hI : xm_good Iv)  : ∀ q ∈ kX11_dies, xm_okb Iv RX11 cX11_dies false 3 lX11_dies q.2 q.1 := by
  intro q hq
  simp only [List.mem_cons, List.not_mem_nil, or_false] at hq
  rcases hq with rfl | rfl | rfl | rfl | rfl
  · exact oX11_dies_0 hI  
  · exact oX11_dies_18 hI  
  · exact oX11_dies_19 hI  
  · exact oX11_dies_29 hI  
  · exact oX11_dies_43 hI  
def S_X11_dies : xS := tU fun as I Q => ∃ a, as = [.ref 0, .int a] ∧ t_good I ∧ t_P Q (q_dies (tG I) a)
theorem body_X11_dies : xm_Body 3 0 0 0 [] lX11_dies kX11_dies S_X11_dies := by
  intro X avs w Q QX hX0 hS
  have hG := xm_go [] hX0
  have hX := xm_go [] hX0
  clear hX0
  obtain ⟨I, rfl, a, rfl, hg, hQ⟩ := hS
  refine ⟨rfl, ?_⟩
  repeat' (first
    | ((with_reducible refine @And.intro (vp_in _ _) _ ?_ ?_); (· (first | with_reducible assumption | ((with_reducible refine t_vin ?_); decide) | ((with_reducible refine vp_in_nI ?_ ?_) <;> first | omega | decide) | (simp (disch := omega) only [xl_n, xl_m, nI_dec, nI_sb, nI_add, pk_mul]; (with_reducible refine vp_in_nI ?_ ?_) <;> first | omega | decide))); (conv => whnf))
    | (refine And.intro (by first | with_reducible assumption | exact (show tL _ = _ from rfl) | decide) ?_; (conv => whnf))
    | ((with_reducible refine @And.intro (_ = _) _ ?_ ?_); (· rfl); (conv => whnf))
    | ((with_reducible refine @And.intro (@LE.le Nat _ _ _) _ ?_ ?_); (· (first | exact Nat.zero_le _ | exact Nat.le_of_ble_eq_true rfl | omega)); (conv => whnf))
    | ((with_reducible refine @And.intro (@LT.lt Nat _ _ _) _ ?_ ?_); (· omega); (conv => whnf))
    | ((with_reducible refine @And.intro (∃ _, _ = _) _ ?_ ?_); (· exact ⟨_, rfl⟩); (conv => whnf))
    | ((with_reducible refine @And.intro (_ ∨ _) _ ?_ ?_); (· (first | exact Or.inl rfl | exact Or.inr rfl | exact t_b01 _ | assumption)); (conv => whnf))
    | ((with_reducible refine @And.intro (¬ (_ = _)) _ ?_ ?_); (· first | assumption | (with_reducible assumption)); (conv => whnf))
    | (refine hX _ _ _ _ _ _ ?_; (conv => whnf); fail_if_success show False)
    | fail)
  rw [t_si]
  obtain ⟨J, hJ, hg1, hG1, h01⟩ := t_pub hg
  rw [← hJ]
  rw [← hG1] at hQ
  clear hJ hG1 hg I
  have hg := hg1
  have hok := hg.1
  have hl := hg.2.1
  have h8 := hok.2.2.2.1
  have h9 := hok.2.1
  (conv => whnf)
  rcases t_hc hg a with ⟨h, hh, rfl, e1, f1⟩ | ⟨e1, f1⟩
  · rw [q_dies, f1, g_ck_t, nI_clamp (by omega)] at hQ
    repeat' (first
      | ((with_reducible refine @And.intro (vp_in _ _) _ ?_ ?_); (· (first | with_reducible assumption | ((with_reducible refine t_vin ?_); decide) | ((with_reducible refine vp_in_nI ?_ ?_) <;> first | omega | decide) | (simp (disch := omega) only [xl_n, xl_m, nI_dec, nI_sb, nI_add, pk_mul]; (with_reducible refine vp_in_nI ?_ ?_) <;> first | omega | decide))); (conv => whnf))
      | (refine And.intro (by first | with_reducible assumption | exact (show tL _ = _ from rfl) | decide) ?_; (conv => whnf))
      | ((with_reducible refine @And.intro (_ = _) _ ?_ ?_); (· rfl); (conv => whnf))
      | ((with_reducible refine @And.intro (@LE.le Nat _ _ _) _ ?_ ?_); (· (first | exact Nat.zero_le _ | exact Nat.le_of_ble_eq_true rfl | omega)); (conv => whnf))
      | ((with_reducible refine @And.intro (@LT.lt Nat _ _ _) _ ?_ ?_); (· omega); (conv => whnf))
      | ((with_reducible refine @And.intro (∃ _, _ = _) _ ?_ ?_); (· exact ⟨_, rfl⟩); (conv => whnf))
      | ((with_reducible refine @And.intro (_ ∨ _) _ ?_ ?_); (· (first | exact Or.inl rfl | exact Or.inr rfl | exact t_b01 _ | assumption)); (conv => whnf))
      | ((with_reducible refine @And.intro (¬ (_ = _)) _ ?_ ?_); (· first | assumption | (with_reducible assumption)); (conv => whnf))
      | (refine hX _ _ _ _ _ _ ?_; (conv => whnf); fail_if_success show False)
      | (rw [t_si]; (conv => whnf))
      | (refine ⟨_, rfl, ?_⟩; (conv => whnf))
      | (refine ⟨_, _, rfl, ?_⟩; (conv => whnf))
      | (refine ⟨_, _, _, rfl, ?_⟩; (conv => whnf))
      | (refine ⟨_, _, _, _, rfl, ?_⟩; (conv => whnf))
      | (rw [e1]; (conv => whnf))
      | (refine And.intro (fun c => ?_) (fun c => ?_) <;> (first | (exact absurd c (by decide +kernel)) | (conv => whnf)))
      | fail)
    · intro L hL hA
      (conv => whnf)
      repeat' (first
        | ((with_reducible refine @And.intro (vp_in _ _) _ ?_ ?_); (· (first | with_reducible assumption | ((with_reducible refine t_vin ?_); decide) | ((with_reducible refine vp_in_nI ?_ ?_) <;> first | omega | decide) | (simp (disch := omega) only [xl_n, xl_m, nI_dec, nI_sb, nI_add, pk_mul]; (with_reducible refine vp_in_nI ?_ ?_) <;> first | omega | decide))); (conv => whnf))
        | (refine And.intro (by first | with_reducible assumption | exact (show tL _ = _ from rfl) | decide) ?_; (conv => whnf))
        | ((with_reducible refine @And.intro (_ = _) _ ?_ ?_); (· rfl); (conv => whnf))
        | ((with_reducible refine @And.intro (@LE.le Nat _ _ _) _ ?_ ?_); (· (first | exact Nat.zero_le _ | exact Nat.le_of_ble_eq_true rfl | omega)); (conv => whnf))
        | ((with_reducible refine @And.intro (@LT.lt Nat _ _ _) _ ?_ ?_); (· omega); (conv => whnf))
        | ((with_reducible refine @And.intro (∃ _, _ = _) _ ?_ ?_); (· exact ⟨_, rfl⟩); (conv => whnf))
        | ((with_reducible refine @And.intro (_ ∨ _) _ ?_ ?_); (· (first | exact Or.inl rfl | exact Or.inr rfl | exact t_b01 _ | assumption)); (conv => whnf))
        | ((with_reducible refine @And.intro (¬ (_ = _)) _ ?_ ?_); (· first | assumption | (with_reducible assumption)); (conv => whnf))
        | (refine hX _ _ _ _ _ _ ?_; (conv => whnf); fail_if_success show False)
        | (rw [t_si]; (conv => whnf))
        | (refine ⟨_, rfl, ?_⟩; (conv => whnf))
        | (refine ⟨_, _, rfl, ?_⟩; (conv => whnf))
        | (refine ⟨_, _, _, rfl, ?_⟩; (conv => whnf))
        | (refine ⟨_, _, _, _, rfl, ?_⟩; (conv => whnf))
        | (refine And.intro (fun c => ?_) (fun c => ?_) <;> (first | (exact absurd c (by decide +kernel)) | (conv => whnf)))
        | fail)
      intro M h1 h2 h3 h4
      (conv => whnf)
      repeat' (first
        | ((with_reducible refine @And.intro (vp_in _ _) _ ?_ ?_); (· (first | with_reducible assumption | ((with_reducible refine t_vin ?_); decide) | ((with_reducible refine vp_in_nI ?_ ?_) <;> first | omega | decide) | (simp (disch := omega) only [xl_n, xl_m, nI_dec, nI_sb, nI_add, pk_mul]; (with_reducible refine vp_in_nI ?_ ?_) <;> first | omega | decide))); (conv => whnf))
        | (refine And.intro (by first | with_reducible assumption | exact (show tL _ = _ from rfl) | decide) ?_; (conv => whnf))
        | ((with_reducible refine @And.intro (_ = _) _ ?_ ?_); (· rfl); (conv => whnf))
        | ((with_reducible refine @And.intro (@LE.le Nat _ _ _) _ ?_ ?_); (· (first | exact Nat.zero_le _ | exact Nat.le_of_ble_eq_true rfl | omega)); (conv => whnf))
        | ((with_reducible refine @And.intro (@LT.lt Nat _ _ _) _ ?_ ?_); (· omega); (conv => whnf))
        | ((with_reducible refine @And.intro (∃ _, _ = _) _ ?_ ?_); (· exact ⟨_, rfl⟩); (conv => whnf))
        | ((with_reducible refine @And.intro (_ ∨ _) _ ?_ ?_); (· (first | exact Or.inl rfl | exact Or.inr rfl | exact t_b01 _ | assumption)); (conv => whnf))
        | ((with_reducible refine @And.intro (¬ (_ = _)) _ ?_ ?_); (· first | assumption | (with_reducible assumption)); (conv => whnf))
        | (refine hX _ _ _ _ _ _ ?_; (conv => whnf); fail_if_success show False)
        | (rw [t_si]; (conv => whnf))
        | (refine ⟨_, rfl, ?_⟩; (conv => whnf))
        | (refine ⟨_, _, rfl, ?_⟩; (conv => whnf))
        | (refine ⟨_, _, _, rfl, ?_⟩; (conv => whnf))
        | (refine ⟨_, _, _, _, rfl, ?_⟩; (conv => whnf))
        | (refine And.intro (fun c => ?_) (fun c => ?_) <;> (first | (exact absurd c (by decide +kernel)) | (conv => whnf)))
        | fail)
      rw [if_pos (by
        clear hX hG hQ
        simp (disch := omega) only [xl_n, xl_m, nI_dec, nI_sb, xl_0, xl_1, tW_i, t_bn0, t_bn1, Classical.not_not, t_lt, nI_add, nI_1, pk_mul, nI_clamp, t_si, nI_eq, nI_leI, nM_ne, nM_ne] at *
        show g_al (tK J) (tA J 36) h = true
        simpa using c)] at hQ
      exact t_settle hQ hg ((hL.sc (by decide)).sl.sm (Or.inl rfl)) (by rw [hL 0 (by decide)]; exact h01) hA h1 h2 h3 h4 rfl
    · rw [if_neg (by
        clear hX hG hQ
        simp (disch := omega) only [xl_n, xl_m, nI_dec, nI_sb, xl_0, xl_1, tW_i, t_bn0, t_bn1, Classical.not_not, t_lt, nI_add, nI_1, pk_mul, nI_clamp, t_si, nI_eq, nI_leI, nM_ne, nM_ne] at *
        show ¬ g_al (tK J) (tA J 36) h = true
        simpa using c)] at hQ
      exact t_ask hQ hg t_sp.rf h01 xl_m
  · rw [q_dies] at hQ
    repeat' (first
      | ((with_reducible refine @And.intro (vp_in _ _) _ ?_ ?_); (· (first | with_reducible assumption | ((with_reducible refine t_vin ?_); decide) | ((with_reducible refine vp_in_nI ?_ ?_) <;> first | omega | decide) | (simp (disch := omega) only [xl_n, xl_m, nI_dec, nI_sb, nI_add, pk_mul]; (with_reducible refine vp_in_nI ?_ ?_) <;> first | omega | decide))); (conv => whnf))
      | (refine And.intro (by first | with_reducible assumption | exact (show tL _ = _ from rfl) | decide) ?_; (conv => whnf))
      | ((with_reducible refine @And.intro (_ = _) _ ?_ ?_); (· rfl); (conv => whnf))
      | ((with_reducible refine @And.intro (@LE.le Nat _ _ _) _ ?_ ?_); (· (first | exact Nat.zero_le _ | exact Nat.le_of_ble_eq_true rfl | omega)); (conv => whnf))
      | ((with_reducible refine @And.intro (@LT.lt Nat _ _ _) _ ?_ ?_); (· omega); (conv => whnf))
      | ((with_reducible refine @And.intro (∃ _, _ = _) _ ?_ ?_); (· exact ⟨_, rfl⟩); (conv => whnf))
      | ((with_reducible refine @And.intro (_ ∨ _) _ ?_ ?_); (· (first | exact Or.inl rfl | exact Or.inr rfl | exact t_b01 _ | assumption)); (conv => whnf))
      | ((with_reducible refine @And.intro (¬ (_ = _)) _ ?_ ?_); (· first | assumption | (with_reducible assumption)); (conv => whnf))
      | (refine hX _ _ _ _ _ _ ?_; (conv => whnf); fail_if_success show False)
      | (rw [t_si]; (conv => whnf))
      | (refine ⟨_, rfl, ?_⟩; (conv => whnf))
      | (refine ⟨_, _, rfl, ?_⟩; (conv => whnf))
      | (refine ⟨_, _, _, rfl, ?_⟩; (conv => whnf))
      | (refine ⟨_, _, _, _, rfl, ?_⟩; (conv => whnf))
      | (rw [e1]; (conv => whnf))
      | (refine And.intro (fun c => ?_) (fun c => ?_) <;> (first | (exact absurd c (by decide +kernel)) | (conv => whnf)))
      | fail)
    exact t_ref' hQ hg h01 (by simp [f1]) (by decide) rfl rfl
theorem ct_X11_dies {Iv : xI} (hI : xm_good Iv) : xm_Ct Iv yX11_dies (ws_ yX11_dies cX11_dies 3 (some .int)) 3 0 0 S_X11_dies := xm_enter (rt := 0) (init := false) (by decide +kernel) rfl (fun h => by cases h) (Or.inl ⟨rfl, rfl⟩) (oX11_dies hI) body_X11_dies
theorem cv_X11_dies {Iv : xI} {own : String} {cc : ByteArray} {fr pc idx : Nat} (hI : xm_good Iv) (hdg : decode cc pc = .ok (.invokevirtual idx, 3)) (hl : xm_ml own idx yX11_dies) (hfr : 3 < fr) : xm_CallOK Iv own cc fr pc (pc + 3) 2 0 0 (xm_this 8 S_X11_dies) := xm_callV 8 hI (ct_X11_dies hI) hdg hl q2445 q2446 q145 q2447 rfl rfl (by decide +kernel) hfr (by decide)
def q_string (G : gG) (a n : Int32) : gR := g_ck G (g_isP G a) (nI 1) 0 (g_ck G (t_in n (nI 1) (nI 30)) (nI 2) 1 (nI 0, t_less (nI 30) (gs (gnow G) a.toNatClampNeg + n), g_set G (g_str (gnow G) a.toNatClampNeg (t_less (nI 30) (gs (gnow G) a.toNatClampNeg + n)))))
abbrev bX11_string_0 : List xE := [(.aload_n 0, 1, 0, 0, 0), (.iconst 0, 2, 0, 0, 0), (.putfield 134, 5, 8, 0, 0), (.aload_n 0, 6, 0, 0, 0), (.aload_n 0, 7, 0, 0, 0), (.iload_n 1, 8, 0, 0, 0), (.invokevirtual 338, 11, 0, 0, 9), (.ifCond .ne 7, 14, 0, 18, 0), (.iconst 1, 15, 0, 0, 0), (.goto 4, 18, 0, 19, 0)]
abbrev bX11_string_18 : List xE := [(.iconst 0, 19, 0, 0, 0)]
abbrev bX11_string_19 : List xE := [(.iconst 1, 20, 0, 0, 0), (.iconst 0, 21, 0, 0, 0), (.invokevirtual 249, 24, 0, 1, 9), (.ifCond .ne 27, 27, 0, 51, 0), (.aload_n 0, 28, 0, 0, 0), (.iload_n 2, 29, 0, 0, 0), (.iconst 1, 30, 0, 0, 0), (.bipush 30, 32, 0, 0, 0), (.invokestatic 168, 35, 0, 2, 9), (.ifCond .ne 7, 38, 0, 42, 0), (.iconst 1, 39, 0, 0, 0), (.goto 4, 42, 0, 43, 0)]
abbrev bX11_string_42 : List xE := [(.iconst 0, 43, 0, 0, 0)]
abbrev bX11_string_43 : List xE := [(.iconst 2, 44, 0, 0, 0), (.iconst 1, 45, 0, 0, 0), (.invokevirtual 249, 48, 0, 1, 9), (.ifCond .eq 5, 51, 0, 53, 0)]
abbrev bX11_string_51 : List xE := [(.iconst 0, 52, 0, 0, 0), (.ireturn, 53, 0, 0, 0)]
abbrev bX11_string_53 : List xE := [(.aload_n 0, 54, 0, 0, 0), (.getfield 91, 57, 8, 36, 1), (.bipush 9, 59, 0, 0, 0), (.iload_n 1, 60, 0, 0, 0), (.iadd, 61, 0, 0, 0), (.bipush 30, 63, 0, 0, 0), (.aload_n 0, 64, 0, 0, 0), (.getfield 91, 67, 8, 36, 1), (.bipush 9, 69, 0, 0, 0), (.iload_n 1, 70, 0, 0, 0), (.iadd, 71, 0, 0, 0), (.iaload, 72, 0, 0, 0), (.iload_n 2, 73, 0, 0, 0), (.iadd, 74, 0, 0, 0), (.invokestatic 229, 77, 0, 3, 9), (.iastore, 78, 0, 0, 0), (.aload_n 0, 79, 0, 0, 0), (.invokevirtual 279, 82, 0, 4, 9), (.aload_n 0, 83, 0, 0, 0), (.getfield 91, 86, 8, 36, 1), (.bipush 9, 88, 0, 0, 0), (.iload_n 1, 89, 0, 0, 0), (.iadd, 90, 0, 0, 0), (.iaload, 91, 0, 0, 0), (.ireturn, 92, 0, 0, 0)]
abbrev kX11_string : List (Nat × List xE) := [(0, bX11_string_0), (18, bX11_string_18), (19, bX11_string_19), (42, bX11_string_42), (43, bX11_string_43), (51, bX11_string_51), (53, bX11_string_53)]
abbrev lX11_string : List (Nat × Nat × Nat × xS) := [(2, 0, 0, xm_this 8 S_X11_isPuppet), (4, 0, 0, xm_this 8 S_X11_bad), (3, 0, 0, S_X11_in), (2, 0, 0, S_X11_less), (1, 0, 0, xm_this 8 S_X11_settles)]
theorem oX11_string_0 {Iv : xI} (hI : xm_good Iv)  : xm_okb Iv RX11 cX11_string false 3 lX11_string bX11_string_0 0 := xo_0 dX11_string_0 rfl trivial (xo_0 dX11_string_1 rfl trivial (xo_0 dX11_string_2 rfl (xm_fp_of (xm_fg_of (Or.inl q1955) (by decide) rfl (by decide) rfl rfl (Or.inl rfl) rfl) (by decide) rfl (Or.inl ⟨rfl, rfl⟩) rfl) (xo_0 dX11_string_5 rfl trivial (xo_0 dX11_string_6 rfl trivial (xo_0 dX11_string_7 rfl trivial (xo_c rfl (cv_X11_isPuppet hI dX11_string_8 (Or.inl q2319) (by decide)) (xo_0 dX11_string_11 rfl rfl (xo_0 dX11_string_14 rfl trivial (xo_0 dX11_string_15 rfl rfl (xo_n))))))))))
theorem oX11_string_18 {Iv : xI} (hI : xm_good Iv)  : xm_okb Iv RX11 cX11_string false 3 lX11_string bX11_string_18 18 := xo_0 dX11_string_18 rfl trivial (xo_n)
theorem oX11_string_19 {Iv : xI} (hI : xm_good Iv)  : xm_okb Iv RX11 cX11_string false 3 lX11_string bX11_string_19 19 := xo_0 dX11_string_19 rfl trivial (xo_0 dX11_string_20 rfl trivial (xo_c rfl (cv_X11_bad hI dX11_string_21 (Or.inl q2137) (by decide)) (xo_0 dX11_string_24 rfl rfl (xo_0 dX11_string_27 rfl trivial (xo_0 dX11_string_28 rfl trivial (xo_0 dX11_string_29 rfl trivial (xo_0 dX11_string_30 rfl (xo_bipush (by decide +kernel)) (xo_c rfl (cv_X11_in hI dX11_string_32 (Or.inl q1942) (by decide)) (xo_0 dX11_string_35 rfl rfl (xo_0 dX11_string_38 rfl trivial (xo_0 dX11_string_39 rfl rfl (xo_n))))))))))))
theorem oX11_string_42 {Iv : xI} (hI : xm_good Iv)  : xm_okb Iv RX11 cX11_string false 3 lX11_string bX11_string_42 42 := xo_0 dX11_string_42 rfl trivial (xo_n)
theorem oX11_string_43 {Iv : xI} (hI : xm_good Iv)  : xm_okb Iv RX11 cX11_string false 3 lX11_string bX11_string_43 43 := xo_0 dX11_string_43 rfl trivial (xo_0 dX11_string_44 rfl trivial (xo_c rfl (cv_X11_bad hI dX11_string_45 (Or.inl q2137) (by decide)) (xo_0 dX11_string_48 rfl rfl (xo_n))))
theorem oX11_string_51 {Iv : xI} (hI : xm_good Iv)  : xm_okb Iv RX11 cX11_string false 3 lX11_string bX11_string_51 51 := xo_0 dX11_string_51 rfl trivial (xo_0 dX11_string_52 rfl trivial (xo_n))
theorem oX11_string_53 {Iv : xI} (hI : xm_good Iv)  : xm_okb Iv RX11 cX11_string false 3 lX11_string bX11_string_53 53 := xo_0 dX11_string_53 rfl trivial (xo_1 dX11_string_54 rfl (xm_fg_of (Or.inl q1991) (by decide) rfl (by decide) rfl rfl (Or.inl rfl) rfl) (xo_0 dX11_string_57 rfl (xo_bipush (by decide +kernel)) (xo_0 dX11_string_59 rfl trivial (xo_0 dX11_string_60 rfl trivial (xo_0 dX11_string_61 rfl (xo_bipush (by decide +kernel)) (xo_0 dX11_string_63 rfl trivial (xo_1 dX11_string_64 rfl (xm_fg_of (Or.inl q1991) (by decide) rfl (by decide) rfl rfl (Or.inl rfl) rfl) (xo_0 dX11_string_67 rfl (xo_bipush (by decide +kernel)) (xo_0 dX11_string_69 rfl trivial (xo_0 dX11_string_70 rfl trivial (xo_0 dX11_string_71 rfl trivial (xo_0 dX11_string_72 rfl trivial (xo_0 dX11_string_73 rfl trivial (xo_c rfl (cv_X11_less hI dX11_string_74 (Or.inl q2229) (by decide)) (xo_0 dX11_string_77 rfl trivial (xo_0 dX11_string_78 rfl trivial (xo_c rfl (cv_X11_settles hI dX11_string_79 (Or.inl q1951) (by decide)) (xo_0 dX11_string_82 rfl trivial (xo_1 dX11_string_83 rfl (xm_fg_of (Or.inl q1991) (by decide) rfl (by decide) rfl rfl (Or.inl rfl) rfl) (xo_0 dX11_string_86 rfl (xo_bipush (by decide +kernel)) (xo_0 dX11_string_88 rfl trivial (xo_0 dX11_string_89 rfl trivial (xo_0 dX11_string_90 rfl trivial (xo_0 dX11_string_91 rfl trivial (xo_n)))))))))))))))))))))))))
theorem oX11_string {Iv : xI} (hI : xm_good Iv)  : ∀ q ∈ kX11_string, xm_okb Iv RX11 cX11_string false 3 lX11_string q.2 q.1 := by
  intro q hq
  simp only [List.mem_cons, List.not_mem_nil, or_false] at hq
  rcases hq with rfl | rfl | rfl | rfl | rfl | rfl | rfl
  · exact oX11_string_0 hI  
  · exact oX11_string_18 hI  
  · exact oX11_string_19 hI  
  · exact oX11_string_42 hI  
  · exact oX11_string_43 hI  
  · exact oX11_string_51 hI  
  · exact oX11_string_53 hI  
def S_X11_string : xS := tU fun as I Q => ∃ a b, as = [.ref 0, .int a, .int b] ∧ t_good I ∧ t_P Q (q_string (tG I) a b)
theorem body_X11_string : xm_Body 3 0 0 0 [] lX11_string kX11_string S_X11_string := by
  intro X avs w Q QX hX0 hS
  have hG := xm_go [] hX0
  have hX := xm_go [] hX0
  clear hX0
  obtain ⟨I, rfl, a, b, rfl, hg, hQ⟩ := hS
  refine ⟨rfl, ?_⟩
  repeat' (first
    | ((with_reducible refine @And.intro (vp_in _ _) _ ?_ ?_); (· (first | with_reducible assumption | ((with_reducible refine t_vin ?_); decide) | ((with_reducible refine vp_in_nI ?_ ?_) <;> first | omega | decide) | (simp (disch := omega) only [xl_n, xl_m, nI_dec, nI_sb, nI_add, pk_mul]; (with_reducible refine vp_in_nI ?_ ?_) <;> first | omega | decide))); (conv => whnf))
    | (refine And.intro (by first | with_reducible assumption | exact (show tL _ = _ from rfl) | decide) ?_; (conv => whnf))
    | ((with_reducible refine @And.intro (_ = _) _ ?_ ?_); (· rfl); (conv => whnf))
    | ((with_reducible refine @And.intro (@LE.le Nat _ _ _) _ ?_ ?_); (· (first | exact Nat.zero_le _ | exact Nat.le_of_ble_eq_true rfl | omega)); (conv => whnf))
    | ((with_reducible refine @And.intro (@LT.lt Nat _ _ _) _ ?_ ?_); (· omega); (conv => whnf))
    | ((with_reducible refine @And.intro (∃ _, _ = _) _ ?_ ?_); (· exact ⟨_, rfl⟩); (conv => whnf))
    | ((with_reducible refine @And.intro (_ ∨ _) _ ?_ ?_); (· (first | exact Or.inl rfl | exact Or.inr rfl | exact t_b01 _ | assumption)); (conv => whnf))
    | ((with_reducible refine @And.intro (¬ (_ = _)) _ ?_ ?_); (· first | assumption | (with_reducible assumption)); (conv => whnf))
    | (refine hX _ _ _ _ _ _ ?_; (conv => whnf); fail_if_success show False)
    | fail)
  rw [t_si]
  obtain ⟨J, hJ, hg1, hG1, h01⟩ := t_pub hg
  rw [← hJ]
  rw [← hG1] at hQ
  clear hJ hG1 hg I
  have hg := hg1
  have hok := hg.1
  have hl := hg.2.1
  have h8 := hok.2.2.2.1
  have h9 := hok.2.1
  (conv => whnf)
  rcases t_pc hg a with ⟨p, hp, rfl, e1, f1⟩ | ⟨e1, f1⟩
  · rw [q_string, f1, g_ck_t, nI_clamp (by omega), show gs (gnow (tG J)) p = J 36 (9 + p) from tA_gs (by omega)] at hQ
    rcases t_rc b 1 30 (L := Int32.ofInt 1) (H := Int32.ofInt 30) (by decide +kernel) (by decide +kernel) (by omega) (by omega) with ⟨n, -, hn, rfl, e2, f2⟩ | ⟨e2, f2⟩
    · rw [f2, g_ck_t] at hQ
      repeat' (first
        | ((with_reducible refine @And.intro (vp_in _ _) _ ?_ ?_); (· (first | with_reducible assumption | ((with_reducible refine t_vin ?_); decide) | ((with_reducible refine vp_in_nI ?_ ?_) <;> first | omega | decide) | (simp (disch := omega) only [xl_n, xl_m, nI_dec, nI_sb, nI_add, pk_mul]; (with_reducible refine vp_in_nI ?_ ?_) <;> first | omega | decide))); (conv => whnf))
        | (refine And.intro (by first | with_reducible assumption | exact (show tL _ = _ from rfl) | decide) ?_; (conv => whnf))
        | ((with_reducible refine @And.intro (_ = _) _ ?_ ?_); (· rfl); (conv => whnf))
        | ((with_reducible refine @And.intro (@LE.le Nat _ _ _) _ ?_ ?_); (· (first | exact Nat.zero_le _ | exact Nat.le_of_ble_eq_true rfl | omega)); (conv => whnf))
        | ((with_reducible refine @And.intro (@LT.lt Nat _ _ _) _ ?_ ?_); (· omega); (conv => whnf))
        | ((with_reducible refine @And.intro (∃ _, _ = _) _ ?_ ?_); (· exact ⟨_, rfl⟩); (conv => whnf))
        | ((with_reducible refine @And.intro (_ ∨ _) _ ?_ ?_); (· (first | exact Or.inl rfl | exact Or.inr rfl | exact t_b01 _ | assumption)); (conv => whnf))
        | ((with_reducible refine @And.intro (¬ (_ = _)) _ ?_ ?_); (· first | assumption | (with_reducible assumption)); (conv => whnf))
        | (refine hX _ _ _ _ _ _ ?_; (conv => whnf); fail_if_success show False)
        | (rw [t_si]; simp (disch := omega) only [xl_n, xl_m, nI_dec, nI_sb, xl_0, xl_1, tW_i, t_bn0, t_bn1, Classical.not_not, t_lt, nI_add, nI_1, pk_mul, nI_clamp, t_si, nI_eq, nI_leI, nM_ne, nM_ne, xm_u2_ne, xm_u2_at, reduceIte, tK_u, tA_u, Nat.reduceEqDiff]; (conv => whnf))
        | (refine ⟨_, rfl, ?_⟩; (conv => whnf))
        | (refine ⟨_, _, rfl, ?_⟩; (conv => whnf))
        | (refine ⟨_, _, _, rfl, ?_⟩; (conv => whnf))
        | (refine ⟨_, _, _, _, rfl, ?_⟩; (conv => whnf))
        | (rw [e1]; (conv => whnf))
        | (rw [e2]; (conv => whnf))
        | (refine And.intro (fun c => ?_) (fun c => ?_) <;> (first | (exact absurd c (by decide +kernel)) | (conv => whnf)))
        | fail)
      intro M h1 h2 h3 h4
      (conv => whnf)
      repeat' (first
        | ((with_reducible refine @And.intro (vp_in _ _) _ ?_ ?_); (· (first | with_reducible assumption | ((with_reducible refine t_vin ?_); decide) | ((with_reducible refine vp_in_nI ?_ ?_) <;> first | omega | decide) | (simp (disch := omega) only [xl_n, xl_m, nI_dec, nI_sb, nI_add, pk_mul]; (with_reducible refine vp_in_nI ?_ ?_) <;> first | omega | decide))); (conv => whnf))
        | (refine And.intro (by first | with_reducible assumption | exact (show tL _ = _ from rfl) | decide) ?_; (conv => whnf))
        | ((with_reducible refine @And.intro (_ = _) _ ?_ ?_); (· rfl); (conv => whnf))
        | ((with_reducible refine @And.intro (@LE.le Nat _ _ _) _ ?_ ?_); (· (first | exact Nat.zero_le _ | exact Nat.le_of_ble_eq_true rfl | omega)); (conv => whnf))
        | ((with_reducible refine @And.intro (@LT.lt Nat _ _ _) _ ?_ ?_); (· omega); (conv => whnf))
        | ((with_reducible refine @And.intro (∃ _, _ = _) _ ?_ ?_); (· exact ⟨_, rfl⟩); (conv => whnf))
        | ((with_reducible refine @And.intro (_ ∨ _) _ ?_ ?_); (· (first | exact Or.inl rfl | exact Or.inr rfl | exact t_b01 _ | assumption)); (conv => whnf))
        | ((with_reducible refine @And.intro (¬ (_ = _)) _ ?_ ?_); (· first | assumption | (with_reducible assumption)); (conv => whnf))
        | (refine hX _ _ _ _ _ _ ?_; (conv => whnf); fail_if_success show False)
        | (rw [t_si]; (conv => whnf))
        | (refine ⟨_, rfl, ?_⟩; (conv => whnf))
        | (refine ⟨_, _, rfl, ?_⟩; (conv => whnf))
        | (refine ⟨_, _, _, rfl, ?_⟩; (conv => whnf))
        | (refine ⟨_, _, _, _, rfl, ?_⟩; (conv => whnf))
        | (refine And.intro (fun c => ?_) (fun c => ?_) <;> (first | (exact absurd c (by decide +kernel)) | (conv => whnf)))
        | fail)
      refine t_settle hQ hg (L := xm_u2 J 36 (9 + p) (t_less (nI 30) (J 36 (9 + p) + nI n))) ((t_sc.u (by decide)).sl.sm (Or.inl rfl)) ?_ (tA_s (by omega)) h1 h2 h3 h4 ?_
      · rw [xm_u2_ne (by decide)]
        exact h01
      · clear hX hG hQ
        simp (disch := omega) only [xl_n, xl_m, nI_dec, nI_sb, xl_0, xl_1, tW_i, t_bn0, t_bn1, Classical.not_not, t_lt, nI_add, nI_1, pk_mul, nI_clamp, t_si, nI_eq, nI_leI, nM_ne, nM_ne] at *
        rw [h2 36 (by decide) (by decide), xm_u2_at, if_pos rfl]
    · repeat' (first
        | ((with_reducible refine @And.intro (vp_in _ _) _ ?_ ?_); (· (first | with_reducible assumption | ((with_reducible refine t_vin ?_); decide) | ((with_reducible refine vp_in_nI ?_ ?_) <;> first | omega | decide) | (simp (disch := omega) only [xl_n, xl_m, nI_dec, nI_sb, nI_add, pk_mul]; (with_reducible refine vp_in_nI ?_ ?_) <;> first | omega | decide))); (conv => whnf))
        | (refine And.intro (by first | with_reducible assumption | exact (show tL _ = _ from rfl) | decide) ?_; (conv => whnf))
        | ((with_reducible refine @And.intro (_ = _) _ ?_ ?_); (· rfl); (conv => whnf))
        | ((with_reducible refine @And.intro (@LE.le Nat _ _ _) _ ?_ ?_); (· (first | exact Nat.zero_le _ | exact Nat.le_of_ble_eq_true rfl | omega)); (conv => whnf))
        | ((with_reducible refine @And.intro (@LT.lt Nat _ _ _) _ ?_ ?_); (· omega); (conv => whnf))
        | ((with_reducible refine @And.intro (∃ _, _ = _) _ ?_ ?_); (· exact ⟨_, rfl⟩); (conv => whnf))
        | ((with_reducible refine @And.intro (_ ∨ _) _ ?_ ?_); (· (first | exact Or.inl rfl | exact Or.inr rfl | exact t_b01 _ | assumption)); (conv => whnf))
        | ((with_reducible refine @And.intro (¬ (_ = _)) _ ?_ ?_); (· first | assumption | (with_reducible assumption)); (conv => whnf))
        | (refine hX _ _ _ _ _ _ ?_; (conv => whnf); fail_if_success show False)
        | (rw [t_si]; (conv => whnf))
        | (refine ⟨_, rfl, ?_⟩; (conv => whnf))
        | (refine ⟨_, _, rfl, ?_⟩; (conv => whnf))
        | (refine ⟨_, _, _, rfl, ?_⟩; (conv => whnf))
        | (refine ⟨_, _, _, _, rfl, ?_⟩; (conv => whnf))
        | (rw [e1]; (conv => whnf))
        | (rw [e2]; (conv => whnf))
        | (refine And.intro (fun c => ?_) (fun c => ?_) <;> (first | (exact absurd c (by decide +kernel)) | (conv => whnf)))
        | fail)
      exact t_ref' hQ hg h01 (by simp [f2]) (by decide) rfl rfl
  · rw [q_string] at hQ
    repeat' (first
      | ((with_reducible refine @And.intro (vp_in _ _) _ ?_ ?_); (· (first | with_reducible assumption | ((with_reducible refine t_vin ?_); decide) | ((with_reducible refine vp_in_nI ?_ ?_) <;> first | omega | decide) | (simp (disch := omega) only [xl_n, xl_m, nI_dec, nI_sb, nI_add, pk_mul]; (with_reducible refine vp_in_nI ?_ ?_) <;> first | omega | decide))); (conv => whnf))
      | (refine And.intro (by first | with_reducible assumption | exact (show tL _ = _ from rfl) | decide) ?_; (conv => whnf))
      | ((with_reducible refine @And.intro (_ = _) _ ?_ ?_); (· rfl); (conv => whnf))
      | ((with_reducible refine @And.intro (@LE.le Nat _ _ _) _ ?_ ?_); (· (first | exact Nat.zero_le _ | exact Nat.le_of_ble_eq_true rfl | omega)); (conv => whnf))
      | ((with_reducible refine @And.intro (@LT.lt Nat _ _ _) _ ?_ ?_); (· omega); (conv => whnf))
      | ((with_reducible refine @And.intro (∃ _, _ = _) _ ?_ ?_); (· exact ⟨_, rfl⟩); (conv => whnf))
      | ((with_reducible refine @And.intro (_ ∨ _) _ ?_ ?_); (· (first | exact Or.inl rfl | exact Or.inr rfl | exact t_b01 _ | assumption)); (conv => whnf))
      | ((with_reducible refine @And.intro (¬ (_ = _)) _ ?_ ?_); (· first | assumption | (with_reducible assumption)); (conv => whnf))
      | (refine hX _ _ _ _ _ _ ?_; (conv => whnf); fail_if_success show False)
      | (rw [t_si]; (conv => whnf))
      | (refine ⟨_, rfl, ?_⟩; (conv => whnf))
      | (refine ⟨_, _, rfl, ?_⟩; (conv => whnf))
      | (refine ⟨_, _, _, rfl, ?_⟩; (conv => whnf))
      | (refine ⟨_, _, _, _, rfl, ?_⟩; (conv => whnf))
      | (rw [e1]; (conv => whnf))
      | (refine And.intro (fun c => ?_) (fun c => ?_) <;> (first | (exact absurd c (by decide +kernel)) | (conv => whnf)))
      | fail)
    exact t_ref' hQ hg h01 (by simp [f1]) (by decide) rfl rfl
theorem ct_X11_string {Iv : xI} (hI : xm_good Iv) : xm_Ct Iv yX11_string (ws_ yX11_string cX11_string 3 (some .int)) 3 0 0 S_X11_string := xm_enter (rt := 0) (init := false) (by decide +kernel) rfl (fun h => by cases h) (Or.inl ⟨rfl, rfl⟩) (oX11_string hI) body_X11_string
theorem cv_X11_string {Iv : xI} {own : String} {cc : ByteArray} {fr pc idx : Nat} (hI : xm_good Iv) (hdg : decode cc pc = .ok (.invokevirtual idx, 3)) (hl : xm_ml own idx yX11_string) (hfr : 3 < fr) : xm_CallOK Iv own cc fr pc (pc + 3) 3 0 0 (xm_this 8 S_X11_string) := xm_callV 8 hI (ct_X11_string hI) hdg hl q2449 q2450 q145 q2451 rfl rfl (by decide +kernel) hfr (by decide)
def q_give (G : gG) (a b c : Int32) : gR := g_ck G (g_isP G a && g_isH G b && g_isH G c) (nI 1) 0 (if (t_has (gw (gnow G) a.toNatClampNeg) b.toNatClampNeg && g_may (gGK G) (gnow G) a.toNatClampNeg c.toNatClampNeg) = true then (nI 0, nI 1, g_set G (g_begin (g_cease (gnow G) a.toNatClampNeg b.toNatClampNeg) a.toNatClampNeg c.toNatClampNeg)) else g_says G (nI 0))
abbrev bX11_give_0 : List xE := [(.aload_n 0, 1, 0, 0, 0), (.iconst 0, 2, 0, 0, 0), (.putfield 134, 5, 8, 0, 0), (.aload_n 0, 6, 0, 0, 0), (.aload_n 0, 7, 0, 0, 0), (.iload_n 1, 8, 0, 0, 0), (.invokevirtual 338, 11, 0, 0, 9), (.ifCond .eq 19, 14, 0, 30, 0), (.aload_n 0, 15, 0, 0, 0), (.iload_n 2, 16, 0, 0, 0), (.invokevirtual 331, 19, 0, 1, 9), (.ifCond .eq 11, 22, 0, 30, 0), (.aload_n 0, 23, 0, 0, 0), (.iload_n 3, 24, 0, 0, 0), (.invokevirtual 331, 27, 0, 1, 9), (.ifCond .ne 7, 30, 0, 34, 0)]
abbrev bX11_give_30 : List xE := [(.iconst 1, 31, 0, 0, 0), (.goto 4, 34, 0, 35, 0)]
abbrev bX11_give_34 : List xE := [(.iconst 0, 35, 0, 0, 0)]
abbrev bX11_give_35 : List xE := [(.iconst 1, 36, 0, 0, 0), (.iconst 0, 37, 0, 0, 0), (.invokevirtual 249, 40, 0, 2, 9), (.ifCond .eq 5, 43, 0, 45, 0), (.iconst 0, 44, 0, 0, 0), (.ireturn, 45, 0, 0, 0)]
abbrev bX11_give_45 : List xE := [(.aload_n 0, 46, 0, 0, 0), (.getfield 91, 49, 8, 36, 1), (.iconst 1, 50, 0, 0, 0), (.iload_n 1, 51, 0, 0, 0), (.iadd, 52, 0, 0, 0), (.iaload, 53, 0, 0, 0), (.iload_n 2, 54, 0, 0, 0), (.invokestatic 242, 57, 0, 3, 9), (.ifCond .eq 16, 60, 0, 73, 0), (.aload_n 0, 61, 0, 0, 0), (.aload_n 0, 62, 0, 0, 0), (.getfield 91, 65, 8, 36, 1), (.iload_n 1, 66, 0, 0, 0), (.iload_n 3, 67, 0, 0, 0), (.invokevirtual 360, 70, 0, 4, 9), (.ifCond .ne 5, 73, 0, 75, 0)]
abbrev bX11_give_73 : List xE := [(.iconst 0, 74, 0, 0, 0), (.ireturn, 75, 0, 0, 0)]
abbrev bX11_give_75 : List xE := [(.aload_n 0, 76, 0, 0, 0), (.aload_n 0, 77, 0, 0, 0), (.getfield 91, 80, 8, 36, 1), (.iload_n 1, 81, 0, 0, 0), (.iload_n 2, 82, 0, 0, 0), (.invokevirtual 367, 85, 0, 5, 9), (.aload_n 0, 86, 0, 0, 0), (.aload_n 0, 87, 0, 0, 0), (.getfield 91, 90, 8, 36, 1), (.iload_n 1, 91, 0, 0, 0), (.iload_n 3, 92, 0, 0, 0), (.invokevirtual 382, 95, 0, 6, 9), (.aload_n 0, 96, 0, 0, 0), (.invokevirtual 279, 99, 0, 7, 9), (.iconst 1, 100, 0, 0, 0), (.ireturn, 101, 0, 0, 0)]
abbrev kX11_give : List (Nat × List xE) := [(0, bX11_give_0), (30, bX11_give_30), (34, bX11_give_34), (35, bX11_give_35), (45, bX11_give_45), (73, bX11_give_73), (75, bX11_give_75)]
abbrev lX11_give : List (Nat × Nat × Nat × xS) := [(2, 0, 0, xm_this 8 S_X11_isPuppet), (2, 0, 0, xm_this 8 S_X11_isHand), (4, 0, 0, xm_this 8 S_X11_bad), (2, 0, 0, S_X11_has), (4, 0, 0, xm_this 8 S_X11_mayWork), (4, 0, 0, xm_this 8 S_X11_ceases), (4, 0, 0, xm_this 8 S_X11_begins), (1, 0, 0, xm_this 8 S_X11_settles)]
theorem oX11_give_0 {Iv : xI} (hI : xm_good Iv)  : xm_okb Iv RX11 cX11_give false 4 lX11_give bX11_give_0 0 := xo_0 dX11_give_0 rfl trivial (xo_0 dX11_give_1 rfl trivial (xo_0 dX11_give_2 rfl (xm_fp_of (xm_fg_of (Or.inl q1955) (by decide) rfl (by decide) rfl rfl (Or.inl rfl) rfl) (by decide) rfl (Or.inl ⟨rfl, rfl⟩) rfl) (xo_0 dX11_give_5 rfl trivial (xo_0 dX11_give_6 rfl trivial (xo_0 dX11_give_7 rfl trivial (xo_c rfl (cv_X11_isPuppet hI dX11_give_8 (Or.inl q2319) (by decide)) (xo_0 dX11_give_11 rfl rfl (xo_0 dX11_give_14 rfl trivial (xo_0 dX11_give_15 rfl trivial (xo_c rfl (cv_X11_isHand hI dX11_give_16 (Or.inl q2304) (by decide)) (xo_0 dX11_give_19 rfl rfl (xo_0 dX11_give_22 rfl trivial (xo_0 dX11_give_23 rfl trivial (xo_c rfl (cv_X11_isHand hI dX11_give_24 (Or.inl q2304) (by decide)) (xo_0 dX11_give_27 rfl rfl (xo_n))))))))))))))))
theorem oX11_give_30 {Iv : xI} (hI : xm_good Iv)  : xm_okb Iv RX11 cX11_give false 4 lX11_give bX11_give_30 30 := xo_0 dX11_give_30 rfl trivial (xo_0 dX11_give_31 rfl rfl (xo_n))
theorem oX11_give_34 {Iv : xI} (hI : xm_good Iv)  : xm_okb Iv RX11 cX11_give false 4 lX11_give bX11_give_34 34 := xo_0 dX11_give_34 rfl trivial (xo_n)
theorem oX11_give_35 {Iv : xI} (hI : xm_good Iv)  : xm_okb Iv RX11 cX11_give false 4 lX11_give bX11_give_35 35 := xo_0 dX11_give_35 rfl trivial (xo_0 dX11_give_36 rfl trivial (xo_c rfl (cv_X11_bad hI dX11_give_37 (Or.inl q2137) (by decide)) (xo_0 dX11_give_40 rfl rfl (xo_0 dX11_give_43 rfl trivial (xo_0 dX11_give_44 rfl trivial (xo_n))))))
theorem oX11_give_45 {Iv : xI} (hI : xm_good Iv)  : xm_okb Iv RX11 cX11_give false 4 lX11_give bX11_give_45 45 := xo_0 dX11_give_45 rfl trivial (xo_1 dX11_give_46 rfl (xm_fg_of (Or.inl q1991) (by decide) rfl (by decide) rfl rfl (Or.inl rfl) rfl) (xo_0 dX11_give_49 rfl trivial (xo_0 dX11_give_50 rfl trivial (xo_0 dX11_give_51 rfl trivial (xo_0 dX11_give_52 rfl trivial (xo_0 dX11_give_53 rfl trivial (xo_c rfl (cv_X11_has hI dX11_give_54 (Or.inl q1945) (by decide)) (xo_0 dX11_give_57 rfl rfl (xo_0 dX11_give_60 rfl trivial (xo_0 dX11_give_61 rfl trivial (xo_1 dX11_give_62 rfl (xm_fg_of (Or.inl q1991) (by decide) rfl (by decide) rfl rfl (Or.inl rfl) rfl) (xo_0 dX11_give_65 rfl trivial (xo_0 dX11_give_66 rfl trivial (xo_c rfl (cv_X11_mayWork hI dX11_give_67 (Or.inl q2366) (by decide)) (xo_0 dX11_give_70 rfl rfl (xo_n))))))))))))))))
theorem oX11_give_73 {Iv : xI} (hI : xm_good Iv)  : xm_okb Iv RX11 cX11_give false 4 lX11_give bX11_give_73 73 := xo_0 dX11_give_73 rfl trivial (xo_0 dX11_give_74 rfl trivial (xo_n))
theorem oX11_give_75 {Iv : xI} (hI : xm_good Iv)  : xm_okb Iv RX11 cX11_give false 4 lX11_give bX11_give_75 75 := xo_0 dX11_give_75 rfl trivial (xo_0 dX11_give_76 rfl trivial (xo_1 dX11_give_77 rfl (xm_fg_of (Or.inl q1991) (by decide) rfl (by decide) rfl rfl (Or.inl rfl) rfl) (xo_0 dX11_give_80 rfl trivial (xo_0 dX11_give_81 rfl trivial (xo_c rfl (cv_X11_ceases hI dX11_give_82 (Or.inl q2387) (by decide)) (xo_0 dX11_give_85 rfl trivial (xo_0 dX11_give_86 rfl trivial (xo_1 dX11_give_87 rfl (xm_fg_of (Or.inl q1991) (by decide) rfl (by decide) rfl rfl (Or.inl rfl) rfl) (xo_0 dX11_give_90 rfl trivial (xo_0 dX11_give_91 rfl trivial (xo_c rfl (cv_X11_begins hI dX11_give_92 (Or.inl q2391) (by decide)) (xo_0 dX11_give_95 rfl trivial (xo_c rfl (cv_X11_settles hI dX11_give_96 (Or.inl q1951) (by decide)) (xo_0 dX11_give_99 rfl trivial (xo_0 dX11_give_100 rfl trivial (xo_n))))))))))))))))
theorem oX11_give {Iv : xI} (hI : xm_good Iv)  : ∀ q ∈ kX11_give, xm_okb Iv RX11 cX11_give false 4 lX11_give q.2 q.1 := by
  intro q hq
  simp only [List.mem_cons, List.not_mem_nil, or_false] at hq
  rcases hq with rfl | rfl | rfl | rfl | rfl | rfl | rfl
  · exact oX11_give_0 hI  
  · exact oX11_give_30 hI  
  · exact oX11_give_34 hI  
  · exact oX11_give_35 hI  
  · exact oX11_give_45 hI  
  · exact oX11_give_73 hI  
  · exact oX11_give_75 hI  
def S_X11_give : xS := tU fun as I Q => ∃ a b c, as = [.ref 0, .int a, .int b, .int c] ∧ t_good I ∧ t_P Q (q_give (tG I) a b c)
theorem body_X11_give : xm_Body 4 0 0 0 [] lX11_give kX11_give S_X11_give := by
  intro X avs w Q QX hX0 hS
  have hG := xm_go [] hX0
  have hX := xm_go [] hX0
  clear hX0
  obtain ⟨I, rfl, a, b, d, rfl, hg, hQ⟩ := hS
  refine ⟨rfl, ?_⟩
  repeat' (first
    | ((with_reducible refine @And.intro (vp_in _ _) _ ?_ ?_); (· (first | with_reducible assumption | ((with_reducible refine t_vin ?_); decide) | ((with_reducible refine vp_in_nI ?_ ?_) <;> first | omega | decide) | (simp (disch := omega) only [xl_n, xl_m, nI_dec, nI_sb, nI_add, pk_mul]; (with_reducible refine vp_in_nI ?_ ?_) <;> first | omega | decide))); (conv => whnf))
    | (refine And.intro (by first | with_reducible assumption | exact (show tL _ = _ from rfl) | decide) ?_; (conv => whnf))
    | ((with_reducible refine @And.intro (_ = _) _ ?_ ?_); (· rfl); (conv => whnf))
    | ((with_reducible refine @And.intro (@LE.le Nat _ _ _) _ ?_ ?_); (· (first | exact Nat.zero_le _ | exact Nat.le_of_ble_eq_true rfl | omega)); (conv => whnf))
    | ((with_reducible refine @And.intro (@LT.lt Nat _ _ _) _ ?_ ?_); (· omega); (conv => whnf))
    | ((with_reducible refine @And.intro (∃ _, _ = _) _ ?_ ?_); (· exact ⟨_, rfl⟩); (conv => whnf))
    | ((with_reducible refine @And.intro (_ ∨ _) _ ?_ ?_); (· (first | exact Or.inl rfl | exact Or.inr rfl | exact t_b01 _ | assumption)); (conv => whnf))
    | ((with_reducible refine @And.intro (¬ (_ = _)) _ ?_ ?_); (· first | assumption | (with_reducible assumption)); (conv => whnf))
    | (refine hX _ _ _ _ _ _ ?_; (conv => whnf); fail_if_success show False)
    | fail)
  rw [t_si]
  obtain ⟨J, hJ, hg1, hG1, h01⟩ := t_pub hg
  rw [← hJ]
  rw [← hG1] at hQ
  clear hJ hG1 hg I
  have hg := hg1
  have hok := hg.1
  have hl := hg.2.1
  have h8 := hok.2.2.2.1
  have h9 := hok.2.1
  (conv => whnf)
  rcases t_pc hg a with ⟨p, hp, rfl, e1, f1⟩ | ⟨e1, f1⟩
  · rcases t_hc hg b with ⟨h, hh, rfl, e2, f2⟩ | ⟨e2, f2⟩
    · rcases t_hc hg d with ⟨g, hgh, rfl, e3, f3⟩ | ⟨e3, f3⟩
      · rw [q_give, f1, f2, f3, nI_clamp (by omega), nI_clamp (by omega), nI_clamp (by omega)] at hQ
        have ew : gw (gnow (tG J)) p = J 36 (1 + p) := tA_gw (by omega)
        rw [ew] at hQ
        repeat' (first
          | ((with_reducible refine @And.intro (vp_in _ _) _ ?_ ?_); (· (first | with_reducible assumption | ((with_reducible refine t_vin ?_); decide) | ((with_reducible refine vp_in_nI ?_ ?_) <;> first | omega | decide) | (simp (disch := omega) only [xl_n, xl_m, nI_dec, nI_sb, nI_add, pk_mul]; (with_reducible refine vp_in_nI ?_ ?_) <;> first | omega | decide))); (conv => whnf))
          | (refine And.intro (by first | with_reducible assumption | exact (show tL _ = _ from rfl) | decide) ?_; (conv => whnf))
          | ((with_reducible refine @And.intro (_ = _) _ ?_ ?_); (· rfl); (conv => whnf))
          | ((with_reducible refine @And.intro (@LE.le Nat _ _ _) _ ?_ ?_); (· (first | exact Nat.zero_le _ | exact Nat.le_of_ble_eq_true rfl | omega)); (conv => whnf))
          | ((with_reducible refine @And.intro (@LT.lt Nat _ _ _) _ ?_ ?_); (· omega); (conv => whnf))
          | ((with_reducible refine @And.intro (∃ _, _ = _) _ ?_ ?_); (· exact ⟨_, rfl⟩); (conv => whnf))
          | ((with_reducible refine @And.intro (_ ∨ _) _ ?_ ?_); (· (first | exact Or.inl rfl | exact Or.inr rfl | exact t_b01 _ | assumption)); (conv => whnf))
          | ((with_reducible refine @And.intro (¬ (_ = _)) _ ?_ ?_); (· first | assumption | (with_reducible assumption)); (conv => whnf))
          | (refine hX _ _ _ _ _ _ ?_; (conv => whnf); fail_if_success show False)
          | (rw [t_si]; (conv => whnf))
          | (refine ⟨_, rfl, ?_⟩; (conv => whnf))
          | (refine ⟨_, _, rfl, ?_⟩; (conv => whnf))
          | (refine ⟨_, _, _, rfl, ?_⟩; (conv => whnf))
          | (refine ⟨_, _, _, _, rfl, ?_⟩; (conv => whnf))
          | (rw [e1]; (conv => whnf))
          | (rw [e2]; (conv => whnf))
          | (rw [e3]; (conv => whnf))
          | (refine And.intro (fun c => ?_) (fun c => ?_) <;> (first | (exact absurd c (by decide +kernel)) | (conv => whnf)))
          | fail)
        · rw [if_neg (by
            clear hX hG hQ
            simp (disch := omega) only [xl_n, xl_m, nI_dec, nI_sb, xl_0, xl_1, tW_i, t_bn0, t_bn1, Classical.not_not, t_lt, nI_add, nI_1, pk_mul, nI_clamp, t_si, nI_eq, nI_leI, nM_ne, nM_ne] at *
            simp [c])] at hQ
          exact t_ask hQ hg t_sp.rf h01 xl_n.1
        · intro L hL hA
          (conv => whnf)
          repeat' (first
            | ((with_reducible refine @And.intro (vp_in _ _) _ ?_ ?_); (· (first | with_reducible assumption | ((with_reducible refine t_vin ?_); decide) | ((with_reducible refine vp_in_nI ?_ ?_) <;> first | omega | decide) | (simp (disch := omega) only [xl_n, xl_m, nI_dec, nI_sb, nI_add, pk_mul]; (with_reducible refine vp_in_nI ?_ ?_) <;> first | omega | decide))); (conv => whnf))
            | (refine And.intro (by first | with_reducible assumption | exact (show tL _ = _ from rfl) | decide) ?_; (conv => whnf))
            | ((with_reducible refine @And.intro (_ = _) _ ?_ ?_); (· rfl); (conv => whnf))
            | ((with_reducible refine @And.intro (@LE.le Nat _ _ _) _ ?_ ?_); (· (first | exact Nat.zero_le _ | exact Nat.le_of_ble_eq_true rfl | omega)); (conv => whnf))
            | ((with_reducible refine @And.intro (@LT.lt Nat _ _ _) _ ?_ ?_); (· omega); (conv => whnf))
            | ((with_reducible refine @And.intro (∃ _, _ = _) _ ?_ ?_); (· exact ⟨_, rfl⟩); (conv => whnf))
            | ((with_reducible refine @And.intro (_ ∨ _) _ ?_ ?_); (· (first | exact Or.inl rfl | exact Or.inr rfl | exact t_b01 _ | assumption)); (conv => whnf))
            | ((with_reducible refine @And.intro (¬ (_ = _)) _ ?_ ?_); (· first | assumption | (with_reducible assumption)); (conv => whnf))
            | (refine hX _ _ _ _ _ _ ?_; (conv => whnf); fail_if_success show False)
            | (rw [t_si]; (conv => whnf))
            | (refine ⟨_, rfl, ?_⟩; (conv => whnf))
            | (refine ⟨_, _, rfl, ?_⟩; (conv => whnf))
            | (refine ⟨_, _, _, rfl, ?_⟩; (conv => whnf))
            | (refine ⟨_, _, _, _, rfl, ?_⟩; (conv => whnf))
            | (refine And.intro (fun c => ?_) (fun c => ?_) <;> (first | (exact absurd c (by decide +kernel)) | (conv => whnf)))
            | fail)
          intro M hM hB
          (conv => whnf)
          repeat' (first
            | ((with_reducible refine @And.intro (vp_in _ _) _ ?_ ?_); (· (first | with_reducible assumption | ((with_reducible refine t_vin ?_); decide) | ((with_reducible refine vp_in_nI ?_ ?_) <;> first | omega | decide) | (simp (disch := omega) only [xl_n, xl_m, nI_dec, nI_sb, nI_add, pk_mul]; (with_reducible refine vp_in_nI ?_ ?_) <;> first | omega | decide))); (conv => whnf))
            | (refine And.intro (by first | with_reducible assumption | exact (show tL _ = _ from rfl) | decide) ?_; (conv => whnf))
            | ((with_reducible refine @And.intro (_ = _) _ ?_ ?_); (· rfl); (conv => whnf))
            | ((with_reducible refine @And.intro (@LE.le Nat _ _ _) _ ?_ ?_); (· (first | exact Nat.zero_le _ | exact Nat.le_of_ble_eq_true rfl | omega)); (conv => whnf))
            | ((with_reducible refine @And.intro (@LT.lt Nat _ _ _) _ ?_ ?_); (· omega); (conv => whnf))
            | ((with_reducible refine @And.intro (∃ _, _ = _) _ ?_ ?_); (· exact ⟨_, rfl⟩); (conv => whnf))
            | ((with_reducible refine @And.intro (_ ∨ _) _ ?_ ?_); (· (first | exact Or.inl rfl | exact Or.inr rfl | exact t_b01 _ | assumption)); (conv => whnf))
            | ((with_reducible refine @And.intro (¬ (_ = _)) _ ?_ ?_); (· first | assumption | (with_reducible assumption)); (conv => whnf))
            | (refine hX _ _ _ _ _ _ ?_; (conv => whnf); fail_if_success show False)
            | (rw [t_si]; (conv => whnf))
            | (refine ⟨_, rfl, ?_⟩; (conv => whnf))
            | (refine ⟨_, _, rfl, ?_⟩; (conv => whnf))
            | (refine ⟨_, _, _, rfl, ?_⟩; (conv => whnf))
            | (refine ⟨_, _, _, _, rfl, ?_⟩; (conv => whnf))
            | (refine And.intro (fun c => ?_) (fun c => ?_) <;> (first | (exact absurd c (by decide +kernel)) | (conv => whnf)))
            | fail)
          intro N h1 h2 h3 h4
          (conv => whnf)
          repeat' (first
            | ((with_reducible refine @And.intro (vp_in _ _) _ ?_ ?_); (· (first | with_reducible assumption | ((with_reducible refine t_vin ?_); decide) | ((with_reducible refine vp_in_nI ?_ ?_) <;> first | omega | decide) | (simp (disch := omega) only [xl_n, xl_m, nI_dec, nI_sb, nI_add, pk_mul]; (with_reducible refine vp_in_nI ?_ ?_) <;> first | omega | decide))); (conv => whnf))
            | (refine And.intro (by first | with_reducible assumption | exact (show tL _ = _ from rfl) | decide) ?_; (conv => whnf))
            | ((with_reducible refine @And.intro (_ = _) _ ?_ ?_); (· rfl); (conv => whnf))
            | ((with_reducible refine @And.intro (@LE.le Nat _ _ _) _ ?_ ?_); (· (first | exact Nat.zero_le _ | exact Nat.le_of_ble_eq_true rfl | omega)); (conv => whnf))
            | ((with_reducible refine @And.intro (@LT.lt Nat _ _ _) _ ?_ ?_); (· omega); (conv => whnf))
            | ((with_reducible refine @And.intro (∃ _, _ = _) _ ?_ ?_); (· exact ⟨_, rfl⟩); (conv => whnf))
            | ((with_reducible refine @And.intro (_ ∨ _) _ ?_ ?_); (· (first | exact Or.inl rfl | exact Or.inr rfl | exact t_b01 _ | assumption)); (conv => whnf))
            | ((with_reducible refine @And.intro (¬ (_ = _)) _ ?_ ?_); (· first | assumption | (with_reducible assumption)); (conv => whnf))
            | (refine hX _ _ _ _ _ _ ?_; (conv => whnf); fail_if_success show False)
            | (rw [t_si]; (conv => whnf))
            | (refine ⟨_, rfl, ?_⟩; (conv => whnf))
            | (refine ⟨_, _, rfl, ?_⟩; (conv => whnf))
            | (refine ⟨_, _, _, rfl, ?_⟩; (conv => whnf))
            | (refine ⟨_, _, _, _, rfl, ?_⟩; (conv => whnf))
            | (refine And.intro (fun c => ?_) (fun c => ?_) <;> (first | (exact absurd c (by decide +kernel)) | (conv => whnf)))
            | fail)
          rw [if_pos (by
            clear hX hG hQ
            simp (disch := omega) only [xl_n, xl_m, nI_dec, nI_sb, xl_0, xl_1, tW_i, t_bn0, t_bn1, Classical.not_not, t_lt, nI_add, nI_1, pk_mul, nI_clamp, t_si, nI_eq, nI_leI, nM_ne, nM_ne] at *
            simp_all [gGK, gnow, tG, tN])] at hQ
          refine t_settle hQ hg (((hL.sc (by decide)).sl.tr (hM.sc (by decide)).sl).sm (Or.inl rfl)) ?_ (by rw [hB, hA]; rfl) h1 h2 h3 h4 xl_n.2.1
          rw [hM 0 (by decide), hL 0 (by decide)]
          exact h01
        · rw [if_neg (by
            clear hX hG hQ
            simp (disch := omega) only [xl_n, xl_m, nI_dec, nI_sb, xl_0, xl_1, tW_i, t_bn0, t_bn1, Classical.not_not, t_lt, nI_add, nI_1, pk_mul, nI_clamp, t_si, nI_eq, nI_leI, nM_ne, nM_ne] at *
            simp_all [gGK, gnow, tG, tN])] at hQ
          exact t_ask hQ hg t_sp.rf h01 xl_n.1
      · repeat' (first
          | ((with_reducible refine @And.intro (vp_in _ _) _ ?_ ?_); (· (first | with_reducible assumption | ((with_reducible refine t_vin ?_); decide) | ((with_reducible refine vp_in_nI ?_ ?_) <;> first | omega | decide) | (simp (disch := omega) only [xl_n, xl_m, nI_dec, nI_sb, nI_add, pk_mul]; (with_reducible refine vp_in_nI ?_ ?_) <;> first | omega | decide))); (conv => whnf))
          | (refine And.intro (by first | with_reducible assumption | exact (show tL _ = _ from rfl) | decide) ?_; (conv => whnf))
          | ((with_reducible refine @And.intro (_ = _) _ ?_ ?_); (· rfl); (conv => whnf))
          | ((with_reducible refine @And.intro (@LE.le Nat _ _ _) _ ?_ ?_); (· (first | exact Nat.zero_le _ | exact Nat.le_of_ble_eq_true rfl | omega)); (conv => whnf))
          | ((with_reducible refine @And.intro (@LT.lt Nat _ _ _) _ ?_ ?_); (· omega); (conv => whnf))
          | ((with_reducible refine @And.intro (∃ _, _ = _) _ ?_ ?_); (· exact ⟨_, rfl⟩); (conv => whnf))
          | ((with_reducible refine @And.intro (_ ∨ _) _ ?_ ?_); (· (first | exact Or.inl rfl | exact Or.inr rfl | exact t_b01 _ | assumption)); (conv => whnf))
          | ((with_reducible refine @And.intro (¬ (_ = _)) _ ?_ ?_); (· first | assumption | (with_reducible assumption)); (conv => whnf))
          | (refine hX _ _ _ _ _ _ ?_; (conv => whnf); fail_if_success show False)
          | (rw [t_si]; (conv => whnf))
          | (refine ⟨_, rfl, ?_⟩; (conv => whnf))
          | (refine ⟨_, _, rfl, ?_⟩; (conv => whnf))
          | (refine ⟨_, _, _, rfl, ?_⟩; (conv => whnf))
          | (refine ⟨_, _, _, _, rfl, ?_⟩; (conv => whnf))
          | (rw [e1]; (conv => whnf))
          | (rw [e2]; (conv => whnf))
          | (rw [e3]; (conv => whnf))
          | (refine And.intro (fun c => ?_) (fun c => ?_) <;> (first | (exact absurd c (by decide +kernel)) | (conv => whnf)))
          | fail)
        exact t_ref' hQ hg h01 (by simp [f1, f2, f3]) (by decide) rfl rfl
    · repeat' (first
        | ((with_reducible refine @And.intro (vp_in _ _) _ ?_ ?_); (· (first | with_reducible assumption | ((with_reducible refine t_vin ?_); decide) | ((with_reducible refine vp_in_nI ?_ ?_) <;> first | omega | decide) | (simp (disch := omega) only [xl_n, xl_m, nI_dec, nI_sb, nI_add, pk_mul]; (with_reducible refine vp_in_nI ?_ ?_) <;> first | omega | decide))); (conv => whnf))
        | (refine And.intro (by first | with_reducible assumption | exact (show tL _ = _ from rfl) | decide) ?_; (conv => whnf))
        | ((with_reducible refine @And.intro (_ = _) _ ?_ ?_); (· rfl); (conv => whnf))
        | ((with_reducible refine @And.intro (@LE.le Nat _ _ _) _ ?_ ?_); (· (first | exact Nat.zero_le _ | exact Nat.le_of_ble_eq_true rfl | omega)); (conv => whnf))
        | ((with_reducible refine @And.intro (@LT.lt Nat _ _ _) _ ?_ ?_); (· omega); (conv => whnf))
        | ((with_reducible refine @And.intro (∃ _, _ = _) _ ?_ ?_); (· exact ⟨_, rfl⟩); (conv => whnf))
        | ((with_reducible refine @And.intro (_ ∨ _) _ ?_ ?_); (· (first | exact Or.inl rfl | exact Or.inr rfl | exact t_b01 _ | assumption)); (conv => whnf))
        | ((with_reducible refine @And.intro (¬ (_ = _)) _ ?_ ?_); (· first | assumption | (with_reducible assumption)); (conv => whnf))
        | (refine hX _ _ _ _ _ _ ?_; (conv => whnf); fail_if_success show False)
        | (rw [t_si]; (conv => whnf))
        | (refine ⟨_, rfl, ?_⟩; (conv => whnf))
        | (refine ⟨_, _, rfl, ?_⟩; (conv => whnf))
        | (refine ⟨_, _, _, rfl, ?_⟩; (conv => whnf))
        | (refine ⟨_, _, _, _, rfl, ?_⟩; (conv => whnf))
        | (rw [e1]; (conv => whnf))
        | (rw [e2]; (conv => whnf))
        | (refine And.intro (fun c => ?_) (fun c => ?_) <;> (first | (exact absurd c (by decide +kernel)) | (conv => whnf)))
        | fail)
      exact t_ref' hQ hg h01 (by simp [f1, f2]) (by decide) rfl rfl
  · repeat' (first
      | ((with_reducible refine @And.intro (vp_in _ _) _ ?_ ?_); (· (first | with_reducible assumption | ((with_reducible refine t_vin ?_); decide) | ((with_reducible refine vp_in_nI ?_ ?_) <;> first | omega | decide) | (simp (disch := omega) only [xl_n, xl_m, nI_dec, nI_sb, nI_add, pk_mul]; (with_reducible refine vp_in_nI ?_ ?_) <;> first | omega | decide))); (conv => whnf))
      | (refine And.intro (by first | with_reducible assumption | exact (show tL _ = _ from rfl) | decide) ?_; (conv => whnf))
      | ((with_reducible refine @And.intro (_ = _) _ ?_ ?_); (· rfl); (conv => whnf))
      | ((with_reducible refine @And.intro (@LE.le Nat _ _ _) _ ?_ ?_); (· (first | exact Nat.zero_le _ | exact Nat.le_of_ble_eq_true rfl | omega)); (conv => whnf))
      | ((with_reducible refine @And.intro (@LT.lt Nat _ _ _) _ ?_ ?_); (· omega); (conv => whnf))
      | ((with_reducible refine @And.intro (∃ _, _ = _) _ ?_ ?_); (· exact ⟨_, rfl⟩); (conv => whnf))
      | ((with_reducible refine @And.intro (_ ∨ _) _ ?_ ?_); (· (first | exact Or.inl rfl | exact Or.inr rfl | exact t_b01 _ | assumption)); (conv => whnf))
      | ((with_reducible refine @And.intro (¬ (_ = _)) _ ?_ ?_); (· first | assumption | (with_reducible assumption)); (conv => whnf))
      | (refine hX _ _ _ _ _ _ ?_; (conv => whnf); fail_if_success show False)
      | (rw [t_si]; (conv => whnf))
      | (refine ⟨_, rfl, ?_⟩; (conv => whnf))
      | (refine ⟨_, _, rfl, ?_⟩; (conv => whnf))
      | (refine ⟨_, _, _, rfl, ?_⟩; (conv => whnf))
      | (refine ⟨_, _, _, _, rfl, ?_⟩; (conv => whnf))
      | (rw [e1]; (conv => whnf))
      | (refine And.intro (fun c => ?_) (fun c => ?_) <;> (first | (exact absurd c (by decide +kernel)) | (conv => whnf)))
      | fail)
    exact t_ref' hQ hg h01 (by simp [f1]) (by decide) rfl rfl
theorem ct_X11_give {Iv : xI} (hI : xm_good Iv) : xm_Ct Iv yX11_give (ws_ yX11_give cX11_give 4 (some .int)) 4 0 0 S_X11_give := xm_enter (rt := 0) (init := false) (by decide +kernel) rfl (fun h => by cases h) (Or.inl ⟨rfl, rfl⟩) (oX11_give hI) body_X11_give
theorem cv_X11_give {Iv : xI} {own : String} {cc : ByteArray} {fr pc idx : Nat} (hI : xm_good Iv) (hdg : decode cc pc = .ok (.invokevirtual idx, 3)) (hl : xm_ml own idx yX11_give) (hfr : 4 < fr) : xm_CallOK Iv own cc fr pc (pc + 3) 4 0 0 (xm_this 8 S_X11_give) := xm_callV 8 hI (ct_X11_give hI) hdg hl q2453 q2454 q145 q2455 rfl rfl (by decide +kernel) hfr (by decide)
