/-! ===== the reference: last, right, limps ===== -/
set_option maxRecDepth 100000
def g_lastP (G : gG) (a : Nat) (T : gT) : Bool := !g_is (g_casts G T (g_alive (gGK G) T) a)
def q_last (G : gG) (a : Int32) : gR := g_ck G (g_isA G a) (nI 1) 0 (g_says G (g_until (gGK G) (g_lastP G a.toNatClampNeg) 60 (gnow G)))
abbrev bX11_last_0 : List xE := [(.aload_n 0, 1, 0, 0, 0), (.iconst 0, 2, 0, 0, 0), (.putfield 134, 5, 8, 0, 0), (.aload_n 0, 6, 0, 0, 0), (.aload_n 0, 7, 0, 0, 0), (.iload_n 1, 8, 0, 0, 0), (.invokevirtual 344, 11, 0, 0, 9), (.ifCond .ne 7, 14, 0, 18, 0), (.iconst 1, 15, 0, 0, 0), (.goto 4, 18, 0, 19, 0)]
abbrev bX11_last_18 : List xE := [(.iconst 0, 19, 0, 0, 0)]
abbrev bX11_last_19 : List xE := [(.iconst 1, 20, 0, 0, 0), (.iconst 0, 21, 0, 0, 0), (.invokevirtual 249, 24, 0, 1, 9), (.ifCond .eq 5, 27, 0, 29, 0), (.iconst 0, 28, 0, 0, 0), (.ireturn, 29, 0, 0, 0)]
abbrev bX11_last_29 : List xE := [(.aload_n 0, 30, 0, 0, 0), (.getfield 91, 33, 8, 36, 1), (.aload_n 0, 34, 0, 0, 0), (.getfield 100, 37, 8, 39, 1), (.invokestatic 266, 40, 0, 2, 9), (.iconst 0, 41, 0, 0, 0), (.istore_n 2, 42, 0, 0, 0)]
abbrev bX11_last_42 : List xE := [(.iload_n 2, 43, 0, 0, 0), (.bipush 60, 45, 0, 0, 0), (.if_icmp .ge 37, 48, 0, 82, 0), (.aload_n 0, 49, 0, 0, 0), (.aload_n 0, 50, 0, 0, 0), (.getfield 100, 53, 8, 39, 1), (.invokevirtual 385, 56, 0, 3, 9), (.aload_n 0, 57, 0, 0, 0), (.aload_n 0, 58, 0, 0, 0), (.getfield 100, 61, 8, 39, 1), (.iload_n 1, 62, 0, 0, 0), (.invokevirtual 388, 65, 0, 4, 9), (.ifCond .ne 11, 68, 0, 76, 0), (.aload_n 0, 69, 0, 0, 0), (.getfield 100, 72, 8, 39, 1), (.bipush 106, 74, 0, 0, 0), (.iaload, 75, 0, 0, 0), (.ireturn, 76, 0, 0, 0)]
abbrev bX11_last_76 : List xE := [(.iinc 2 1, 79, 0, 0, 0), (.goto (-37), 82, 0, 42, 0)]
abbrev bX11_last_82 : List xE := [(.iconst (-1), 83, 0, 0, 0), (.ireturn, 84, 0, 0, 0)]
abbrev kX11_last : List (Nat × List xE) := [(0, bX11_last_0), (18, bX11_last_18), (19, bX11_last_19), (29, bX11_last_29), (42, bX11_last_42), (76, bX11_last_76), (82, bX11_last_82)]
abbrev lX11_last : List (Nat × Nat × Nat × xS) := [(2, 0, 0, xm_this 8 S_X11_isAct), (4, 0, 0, xm_this 8 S_X11_bad), (2, 0, 0, S_X11_copies), (2, 0, 0, xm_this 8 S_X11_goes), (3, 0, 0, xm_this 8 S_X11_isCast)]
theorem oX11_last_0 {Iv : xI} (hI : xm_good Iv)  : xm_okb Iv RX11 cX11_last false 25 lX11_last bX11_last_0 0 := xo_0 dX11_last_0 rfl trivial (xo_0 dX11_last_1 rfl trivial (xo_0 dX11_last_2 rfl (xm_fp_of (xm_fg_of (Or.inl q1955) (by decide) rfl (by decide) rfl rfl (Or.inl rfl) rfl) (by decide) rfl (Or.inl ⟨rfl, rfl⟩) rfl) (xo_0 dX11_last_5 rfl trivial (xo_0 dX11_last_6 rfl trivial (xo_0 dX11_last_7 rfl trivial (xo_c rfl (cv_X11_isAct hI dX11_last_8 (Or.inl q2331) (by decide)) (xo_0 dX11_last_11 rfl rfl (xo_0 dX11_last_14 rfl trivial (xo_0 dX11_last_15 rfl rfl (xo_n))))))))))
theorem oX11_last_18 {Iv : xI} (hI : xm_good Iv)  : xm_okb Iv RX11 cX11_last false 25 lX11_last bX11_last_18 18 := xo_0 dX11_last_18 rfl trivial (xo_n)
theorem oX11_last_19 {Iv : xI} (hI : xm_good Iv)  : xm_okb Iv RX11 cX11_last false 25 lX11_last bX11_last_19 19 := xo_0 dX11_last_19 rfl trivial (xo_0 dX11_last_20 rfl trivial (xo_c rfl (cv_X11_bad hI dX11_last_21 (Or.inl q2137) (by decide)) (xo_0 dX11_last_24 rfl rfl (xo_0 dX11_last_27 rfl trivial (xo_0 dX11_last_28 rfl trivial (xo_n))))))
theorem oX11_last_29 {Iv : xI} (hI : xm_good Iv)  : xm_okb Iv RX11 cX11_last false 25 lX11_last bX11_last_29 29 := xo_0 dX11_last_29 rfl trivial (xo_1 dX11_last_30 rfl (xm_fg_of (Or.inl q1991) (by decide) rfl (by decide) rfl rfl (Or.inl rfl) rfl) (xo_0 dX11_last_33 rfl trivial (xo_1 dX11_last_34 rfl (xm_fg_of (Or.inl q1994) (by decide) rfl (by decide) rfl rfl (Or.inl rfl) rfl) (xo_c rfl (cv_X11_copies hI dX11_last_37 (Or.inl q1948) (by decide)) (xo_0 dX11_last_40 rfl trivial (xo_0 dX11_last_41 rfl trivial (xo_n)))))))
theorem oX11_last_42 {Iv : xI} (hI : xm_good Iv)  : xm_okb Iv RX11 cX11_last false 25 lX11_last bX11_last_42 42 := xo_0 dX11_last_42 rfl trivial (xo_0 dX11_last_43 rfl (xo_bipush (by decide +kernel)) (xo_0 dX11_last_45 rfl rfl (xo_0 dX11_last_48 rfl trivial (xo_0 dX11_last_49 rfl trivial (xo_1 dX11_last_50 rfl (xm_fg_of (Or.inl q1994) (by decide) rfl (by decide) rfl rfl (Or.inl rfl) rfl) (xo_c rfl (cv_X11_goes hI dX11_last_53 (Or.inl q2378) (by decide)) (xo_0 dX11_last_56 rfl trivial (xo_0 dX11_last_57 rfl trivial (xo_1 dX11_last_58 rfl (xm_fg_of (Or.inl q1994) (by decide) rfl (by decide) rfl rfl (Or.inl rfl) rfl) (xo_0 dX11_last_61 rfl trivial (xo_c rfl (cv_X11_isCast hI dX11_last_62 (Or.inl q2419) (by decide)) (xo_0 dX11_last_65 rfl rfl (xo_0 dX11_last_68 rfl trivial (xo_1 dX11_last_69 rfl (xm_fg_of (Or.inl q1994) (by decide) rfl (by decide) rfl rfl (Or.inl rfl) rfl) (xo_0 dX11_last_72 rfl (xo_bipush (by decide +kernel)) (xo_0 dX11_last_74 rfl trivial (xo_0 dX11_last_75 rfl trivial (xo_n))))))))))))))))))
theorem oX11_last_76 {Iv : xI} (hI : xm_good Iv)  : xm_okb Iv RX11 cX11_last false 25 lX11_last bX11_last_76 76 := xo_0 dX11_last_76 rfl trivial (xo_0 dX11_last_79 rfl rfl (xo_n))
theorem oX11_last_82 {Iv : xI} (hI : xm_good Iv)  : xm_okb Iv RX11 cX11_last false 25 lX11_last bX11_last_82 82 := xo_0 dX11_last_82 rfl trivial (xo_0 dX11_last_83 rfl trivial (xo_n))
theorem oX11_last {Iv : xI} (hI : xm_good Iv)  : ∀ q ∈ kX11_last, xm_okb Iv RX11 cX11_last false 25 lX11_last q.2 q.1 := by
  intro q hq
  simp only [List.mem_cons, List.not_mem_nil, or_false] at hq
  rcases hq with rfl | rfl | rfl | rfl | rfl | rfl | rfl
  · exact oX11_last_0 hI  
  · exact oX11_last_18 hI  
  · exact oX11_last_19 hI  
  · exact oX11_last_29 hI  
  · exact oX11_last_42 hI  
  · exact oX11_last_76 hI  
  · exact oX11_last_82 hI  
def S_X11_last : xS := tU fun as I Q => ∃ a, as = [.ref 0, .int a] ∧ t_good I ∧ g_need (tG I) ∧ t_P Q (q_last (tG I) a)
theorem body_X11_last : xm_Body 3 0 0 0 [] lX11_last kX11_last S_X11_last := by
  intro X avs w Q QX hX0 hS
  have hG := xm_go [] hX0
  have hX := xm_go [42] hX0
  clear hX0
  obtain ⟨I, rfl, a, rfl, hg, hnd, hQ⟩ := hS
  refine ⟨rfl, ?_⟩
  repeat' (first
    | ((with_reducible refine @And.intro (vp_in _ _) _ ?_ ?_); (· (first | with_reducible assumption | ((with_reducible refine t_vin ?_); decide) | ((with_reducible refine vp_in_nI ?_ ?_) <;> first | omega | decide) | (simp (disch := omega) only [xl_n, xl_m, nI_dec, nI_sb, nI_add, pk_mul]; (with_reducible refine vp_in_nI ?_ ?_) <;> first | omega | decide))); (conv => whnf))
    | (refine And.intro (by first | with_reducible assumption | exact (show tL _ = _ from rfl) | decide) ?_; (conv => whnf))
    | ((with_reducible refine @And.intro (_ = _) _ ?_ ?_); (· rfl); (conv => whnf))
    | ((with_reducible refine @And.intro (@LE.le Nat _ _ _) _ ?_ ?_); (· (first | exact Nat.zero_le _ | exact Nat.le_of_ble_eq_true rfl | omega)); (conv => whnf))
    | ((with_reducible refine @And.intro (@LT.lt Nat _ _ _) _ ?_ ?_); (· omega); (conv => whnf))
    | ((with_reducible refine @And.intro (∃ _, _ = _) _ ?_ ?_); (· exact ⟨_, rfl⟩); (conv => whnf))
    | ((with_reducible refine @And.intro (_ ∨ _) _ ?_ ?_); (· (first | exact Or.inl rfl | exact Or.inr rfl | exact t_b01 _ | assumption)); (conv => whnf))
    | ((with_reducible refine @And.intro (¬ (_ = _)) _ ?_ ?_); (· first | assumption | (with_reducible assumption)); (conv => whnf))
    | (refine hX _ _ _ _ _ _ ?_; (conv => whnf); fail_if_success show False)
    | fail)
  rw [t_si]
  obtain ⟨J, hJ, hg1, hG1, h01⟩ := t_pub hg
  rw [← hJ]
  rw [← hG1] at hQ hnd
  clear hJ hG1 hg I
  have hg := hg1
  have hok := hg.1
  have hl := hg.2.1
  have h8 := hok.2.2.2.1
  have h9 := hok.2.1
  (conv => whnf)
  have h6a := hok.2.2.2.2.2
  rcases t_ac hg a with ⟨a, ha, rfl, e1, f1⟩ | ⟨e1, f1⟩
  · rw [q_last, f1, nI_clamp (by omega), g_ck_t] at hQ
    have loop : ∀ k, k ≤ 60 → ∀ M, t_sp J M → M 0 0 = nI 0 → g_until (tK J) (g_lastP (tG J) a) (60 - k) (tA M 39) = g_until (tK J) (g_lastP (tG J) a) 60 (tA J 36) → X 42 [some (.ref 0), some (.int (nI a)), some (.int (nI k))] [] (tW M) 0 0 := by
      refine t_for fun k h1 ih M hM h0 hA => ?_
      have hgM := hM.good hg
      have hokM := hgM.1
      have hlM := hgM.2.1
      refine hG _ _ _ _ _ _ ?_
      (conv => whnf)
      repeat' (first
        | ((with_reducible refine @And.intro (vp_in _ _) _ ?_ ?_); (· (first | with_reducible assumption | ((with_reducible refine t_vin ?_); decide) | ((with_reducible refine vp_in_nI ?_ ?_) <;> first | omega | decide) | (simp (disch := omega) only [xl_n, xl_m, nI_dec, nI_sb, nI_add, pk_mul]; (with_reducible refine vp_in_nI ?_ ?_) <;> first | omega | decide))); (conv => whnf))
        | (refine And.intro (by first | with_reducible assumption | exact (show tL _ = _ from rfl) | decide) ?_; (conv => whnf))
        | ((with_reducible refine @And.intro (_ = _) _ ?_ ?_); (· rfl); (conv => whnf))
        | ((with_reducible refine @And.intro (@LE.le Nat _ _ _) _ ?_ ?_); (· (first | exact Nat.zero_le _ | exact Nat.le_of_ble_eq_true rfl | omega)); (conv => whnf))
        | ((with_reducible refine @And.intro (@LT.lt Nat _ _ _) _ ?_ ?_); (· omega); (conv => whnf))
        | ((with_reducible refine @And.intro (∃ _, _ = _) _ ?_ ?_); (· exact ⟨_, rfl⟩); (conv => whnf))
        | ((with_reducible refine @And.intro (_ ∨ _) _ ?_ ?_); (· (first | exact Or.inl rfl | exact Or.inr rfl | exact t_b01 _ | assumption)); (conv => whnf))
        | ((with_reducible refine @And.intro (¬ (_ = _)) _ ?_ ?_); (· first | assumption | (with_reducible assumption)); (conv => whnf))
        | (refine hX _ _ _ _ _ _ ?_; (conv => whnf); fail_if_success show False)
        | (rw [t_si]; (conv => whnf))
        | (refine ⟨_, rfl, ?_⟩; (conv => whnf))
        | (refine ⟨_, _, rfl, ?_⟩; (conv => whnf))
        | (refine ⟨_, _, _, rfl, ?_⟩; (conv => whnf))
        | (refine ⟨_, _, _, _, rfl, ?_⟩; (conv => whnf))
        | fail)
      refine And.intro (fun c => ?_) (fun c => ?_) <;> (conv => whnf)
      · repeat' (first
          | ((with_reducible refine @And.intro (vp_in _ _) _ ?_ ?_); (· (first | with_reducible assumption | ((with_reducible refine t_vin ?_); decide) | ((with_reducible refine vp_in_nI ?_ ?_) <;> first | omega | decide) | (simp (disch := omega) only [xl_n, xl_m, nI_dec, nI_sb, nI_add, pk_mul]; (with_reducible refine vp_in_nI ?_ ?_) <;> first | omega | decide))); (conv => whnf))
          | (refine And.intro (by first | with_reducible assumption | exact (show tL _ = _ from rfl) | decide) ?_; (conv => whnf))
          | ((with_reducible refine @And.intro (_ = _) _ ?_ ?_); (· rfl); (conv => whnf))
          | ((with_reducible refine @And.intro (@LE.le Nat _ _ _) _ ?_ ?_); (· (first | exact Nat.zero_le _ | exact Nat.le_of_ble_eq_true rfl | omega)); (conv => whnf))
          | ((with_reducible refine @And.intro (@LT.lt Nat _ _ _) _ ?_ ?_); (· omega); (conv => whnf))
          | ((with_reducible refine @And.intro (∃ _, _ = _) _ ?_ ?_); (· exact ⟨_, rfl⟩); (conv => whnf))
          | ((with_reducible refine @And.intro (_ ∨ _) _ ?_ ?_); (· (first | exact Or.inl rfl | exact Or.inr rfl | exact t_b01 _ | assumption)); (conv => whnf))
          | ((with_reducible refine @And.intro (¬ (_ = _)) _ ?_ ?_); (· first | assumption | (with_reducible assumption)); (conv => whnf))
          | (refine hX _ _ _ _ _ _ ?_; (conv => whnf); fail_if_success show False)
          | (rw [t_si]; (conv => whnf))
          | (refine ⟨_, rfl, ?_⟩; (conv => whnf))
          | (refine ⟨_, _, rfl, ?_⟩; (conv => whnf))
          | (refine ⟨_, _, _, rfl, ?_⟩; (conv => whnf))
          | (refine ⟨_, _, _, _, rfl, ?_⟩; (conv => whnf))
          | fail)
        have : k = 60 := Nat.le_antisymm h1 (t_kge (n := 60) rfl c (by omega) (by omega))
        subst this
        refine t_ask hQ hg hM h0 ?_
        exact (xl_m.trans hA)
      · have hk : k < 60 := t_klt (n := 60) rfl c (by omega)
        repeat' (first
          | ((with_reducible refine @And.intro (vp_in _ _) _ ?_ ?_); (· (first | with_reducible assumption | ((with_reducible refine t_vin ?_); decide) | ((with_reducible refine vp_in_nI ?_ ?_) <;> first | omega | decide) | (simp (disch := omega) only [xl_n, xl_m, nI_dec, nI_sb, nI_add, pk_mul]; (with_reducible refine vp_in_nI ?_ ?_) <;> first | omega | decide))); (conv => whnf))
          | (refine And.intro (by first | with_reducible assumption | exact (show tL _ = _ from rfl) | decide) ?_; (conv => whnf))
          | ((with_reducible refine @And.intro (_ = _) _ ?_ ?_); (· rfl); (conv => whnf))
          | ((with_reducible refine @And.intro (@LE.le Nat _ _ _) _ ?_ ?_); (· (first | exact Nat.zero_le _ | exact Nat.le_of_ble_eq_true rfl | omega)); (conv => whnf))
          | ((with_reducible refine @And.intro (@LT.lt Nat _ _ _) _ ?_ ?_); (· omega); (conv => whnf))
          | ((with_reducible refine @And.intro (∃ _, _ = _) _ ?_ ?_); (· exact ⟨_, rfl⟩); (conv => whnf))
          | ((with_reducible refine @And.intro (_ ∨ _) _ ?_ ?_); (· (first | exact Or.inl rfl | exact Or.inr rfl | exact t_b01 _ | assumption)); (conv => whnf))
          | ((with_reducible refine @And.intro (¬ (_ = _)) _ ?_ ?_); (· first | assumption | (with_reducible assumption)); (conv => whnf))
          | (refine hX _ _ _ _ _ _ ?_; (conv => whnf); fail_if_success show False)
          | (rw [t_si]; (conv => whnf))
          | (refine ⟨_, rfl, ?_⟩; (conv => whnf))
          | (refine ⟨_, _, rfl, ?_⟩; (conv => whnf))
          | (refine ⟨_, _, _, rfl, ?_⟩; (conv => whnf))
          | (refine ⟨_, _, _, _, rfl, ?_⟩; (conv => whnf))
          | (refine And.intro (fun c => ?_) (fun c => ?_) <;> (first | (exact absurd c (by decide +kernel)) | (conv => whnf)))
          | fail)
        intro L hL hE
        (conv => whnf)
        have ⟨t1, t2, t3⟩ := t_try hg hM hL hE
        have hgL := t1.good hg
        have eG := t1.G hg
        have eK : tK L = tK J := t1.same.K hg
        have hndL : g_need (tG L) := by rw [eG]; exact hnd
        have haL : a < t_a L := by
          have : t_a L = t_a J := by unfold t_a; rw [t1.fx 12 (Or.inl rfl)]
          omega
        rw [show 60 - k = (60 - (k + 1)) + 1 by omega, g_until_s, ← t3] at hA
        have nx := ih (k + 1) (by omega) (by omega)
        clear ih
        repeat' (first
          | ((with_reducible refine @And.intro (vp_in _ _) _ ?_ ?_); (· (first | with_reducible assumption | ((with_reducible refine t_vin ?_); decide) | ((with_reducible refine vp_in_nI ?_ ?_) <;> first | omega | decide) | (simp (disch := omega) only [xl_n, xl_m, nI_dec, nI_sb, nI_add, pk_mul]; (with_reducible refine vp_in_nI ?_ ?_) <;> first | omega | decide))); (conv => whnf))
          | (refine And.intro (by first | with_reducible assumption | exact (show tL _ = _ from rfl) | decide) ?_; (conv => whnf))
          | ((with_reducible refine @And.intro (_ = _) _ ?_ ?_); (· rfl); (conv => whnf))
          | ((with_reducible refine @And.intro (@LE.le Nat _ _ _) _ ?_ ?_); (· (first | exact Nat.zero_le _ | exact Nat.le_of_ble_eq_true rfl | omega)); (conv => whnf))
          | ((with_reducible refine @And.intro (@LT.lt Nat _ _ _) _ ?_ ?_); (· omega); (conv => whnf))
          | ((with_reducible refine @And.intro (∃ _, _ = _) _ ?_ ?_); (· exact ⟨_, rfl⟩); (conv => whnf))
          | ((with_reducible refine @And.intro (_ ∨ _) _ ?_ ?_); (· (first | exact Or.inl rfl | exact Or.inr rfl | exact t_b01 _ | assumption)); (conv => whnf))
          | ((with_reducible refine @And.intro (¬ (_ = _)) _ ?_ ?_); (· first | assumption | (with_reducible assumption)); (conv => whnf))
          | (refine hX _ _ _ _ _ _ ?_; (conv => whnf); fail_if_success show False)
          | (rw [t_si]; (conv => whnf))
          | (refine ⟨_, rfl, ?_⟩; (conv => whnf))
          | (refine ⟨_, _, rfl, ?_⟩; (conv => whnf))
          | (refine ⟨_, _, _, rfl, ?_⟩; (conv => whnf))
          | (refine ⟨_, _, _, _, rfl, ?_⟩; (conv => whnf))
          | (refine And.intro (fun c => ?_) (fun c => ?_) <;> (first | (exact absurd c (by decide +kernel)) | (conv => whnf)))
          | fail)
        intro N hN h0N eN
        rw [eG, eK]
        have ep : g_lastP (tG J) a (tA L 39) = !g_is (g_casts (tG J) (tA L 39) (g_alive (tK J) (tA L 39)) a) := rfl
        rw [ep] at hA
        have hN2 := t1.tr hN
        have h02 := h0N.trans (t2.trans h0)
        (conv => whnf)
        repeat' (first
          | ((with_reducible refine @And.intro (vp_in _ _) _ ?_ ?_); (· (first | with_reducible assumption | ((with_reducible refine t_vin ?_); decide) | ((with_reducible refine vp_in_nI ?_ ?_) <;> first | omega | decide) | (simp (disch := omega) only [xl_n, xl_m, nI_dec, nI_sb, nI_add, pk_mul]; (with_reducible refine vp_in_nI ?_ ?_) <;> first | omega | decide))); (conv => whnf))
          | (refine And.intro (by first | with_reducible assumption | exact (show tL _ = _ from rfl) | decide) ?_; (conv => whnf))
          | ((with_reducible refine @And.intro (_ = _) _ ?_ ?_); (· rfl); (conv => whnf))
          | ((with_reducible refine @And.intro (@LE.le Nat _ _ _) _ ?_ ?_); (· (first | exact Nat.zero_le _ | exact Nat.le_of_ble_eq_true rfl | omega)); (conv => whnf))
          | ((with_reducible refine @And.intro (@LT.lt Nat _ _ _) _ ?_ ?_); (· omega); (conv => whnf))
          | ((with_reducible refine @And.intro (∃ _, _ = _) _ ?_ ?_); (· exact ⟨_, rfl⟩); (conv => whnf))
          | ((with_reducible refine @And.intro (_ ∨ _) _ ?_ ?_); (· (first | exact Or.inl rfl | exact Or.inr rfl | exact t_b01 _ | assumption)); (conv => whnf))
          | ((with_reducible refine @And.intro (¬ (_ = _)) _ ?_ ?_); (· first | assumption | (with_reducible assumption)); (conv => whnf))
          | (refine hX _ _ _ _ _ _ ?_; (conv => whnf); fail_if_success show False)
          | (rw [t_si]; (conv => whnf))
          | (refine ⟨_, rfl, ?_⟩; (conv => whnf))
          | (refine ⟨_, _, rfl, ?_⟩; (conv => whnf))
          | (refine ⟨_, _, _, rfl, ?_⟩; (conv => whnf))
          | (refine ⟨_, _, _, _, rfl, ?_⟩; (conv => whnf))
          | (refine And.intro (fun c => ?_) (fun c => ?_) <;> (first | (exact absurd c (by decide +kernel)) | (conv => whnf)))
          | fail)
        · have c' : ¬ t_b (g_is (g_casts (tG J) (tA L 39) (g_alive (tK J) (tA L 39)) a)) = 0 := by assumption
          rw [t_b0, Bool.not_eq_false] at c'
          rw [c', if_neg (by decide), ← eN] at hA
          have := nx N hN2 h02 hA
          clear hX hG hQ nx
          simp (disch := omega) only [xl_n, xl_m, nI_dec, nI_sb, xl_0, xl_1, tW_i, t_bn0, t_bn1, Classical.not_not, t_lt, nI_add, nI_1, pk_mul, nI_clamp, t_si, nI_eq, nI_leI, nM_ne, nM_ne, xm_set, xm_lv0, xm_psh] at *
          exact this
        · have c' : t_b (g_is (g_casts (tG J) (tA L 39) (g_alive (tK J) (tA L 39)) a)) = 0 := Classical.not_not.mp (by assumption)
          rw [t_b0] at c'
          rw [c', if_pos (by rfl), ← eN] at hA
          exact t_ask hQ hg hN2 h02 hA
    repeat' (first
      | ((with_reducible refine @And.intro (vp_in _ _) _ ?_ ?_); (· (first | with_reducible assumption | ((with_reducible refine t_vin ?_); decide) | ((with_reducible refine vp_in_nI ?_ ?_) <;> first | omega | decide) | (simp (disch := omega) only [xl_n, xl_m, nI_dec, nI_sb, nI_add, pk_mul]; (with_reducible refine vp_in_nI ?_ ?_) <;> first | omega | decide))); (conv => whnf))
      | (refine And.intro (by first | with_reducible assumption | exact (show tL _ = _ from rfl) | decide) ?_; (conv => whnf))
      | ((with_reducible refine @And.intro (_ = _) _ ?_ ?_); (· rfl); (conv => whnf))
      | ((with_reducible refine @And.intro (@LE.le Nat _ _ _) _ ?_ ?_); (· (first | exact Nat.zero_le _ | exact Nat.le_of_ble_eq_true rfl | omega)); (conv => whnf))
      | ((with_reducible refine @And.intro (@LT.lt Nat _ _ _) _ ?_ ?_); (· omega); (conv => whnf))
      | ((with_reducible refine @And.intro (∃ _, _ = _) _ ?_ ?_); (· exact ⟨_, rfl⟩); (conv => whnf))
      | ((with_reducible refine @And.intro (_ ∨ _) _ ?_ ?_); (· (first | exact Or.inl rfl | exact Or.inr rfl | exact t_b01 _ | assumption)); (conv => whnf))
      | ((with_reducible refine @And.intro (¬ (_ = _)) _ ?_ ?_); (· first | assumption | (with_reducible assumption)); (conv => whnf))
      | (refine hX _ _ _ _ _ _ ?_; (conv => whnf); fail_if_success show False)
      | (rw [t_si]; (conv => whnf))
      | (refine ⟨_, rfl, ?_⟩; (conv => whnf))
      | (refine ⟨_, _, rfl, ?_⟩; (conv => whnf))
      | (refine ⟨_, _, _, rfl, ?_⟩; (conv => whnf))
      | (refine ⟨_, _, _, _, rfl, ?_⟩; (conv => whnf))
      | (rw [e1]; (conv => whnf))
      | (refine And.intro (fun c => ?_) (fun c => ?_) <;> (first | (exact absurd c (by decide +kernel)) | (conv => whnf)))
      | fail)
    intro M hM hk
    (conv => whnf)
    repeat' (first
      | ((with_reducible refine @And.intro (vp_in _ _) _ ?_ ?_); (· (first | with_reducible assumption | ((with_reducible refine t_vin ?_); decide) | ((with_reducible refine vp_in_nI ?_ ?_) <;> first | omega | decide) | (simp (disch := omega) only [xl_n, xl_m, nI_dec, nI_sb, nI_add, pk_mul]; (with_reducible refine vp_in_nI ?_ ?_) <;> first | omega | decide))); (conv => whnf))
      | (refine And.intro (by first | with_reducible assumption | exact (show tL _ = _ from rfl) | decide) ?_; (conv => whnf))
      | ((with_reducible refine @And.intro (_ = _) _ ?_ ?_); (· rfl); (conv => whnf))
      | ((with_reducible refine @And.intro (@LE.le Nat _ _ _) _ ?_ ?_); (· (first | exact Nat.zero_le _ | exact Nat.le_of_ble_eq_true rfl | omega)); (conv => whnf))
      | ((with_reducible refine @And.intro (@LT.lt Nat _ _ _) _ ?_ ?_); (· omega); (conv => whnf))
      | ((with_reducible refine @And.intro (∃ _, _ = _) _ ?_ ?_); (· exact ⟨_, rfl⟩); (conv => whnf))
      | ((with_reducible refine @And.intro (_ ∨ _) _ ?_ ?_); (· (first | exact Or.inl rfl | exact Or.inr rfl | exact t_b01 _ | assumption)); (conv => whnf))
      | ((with_reducible refine @And.intro (¬ (_ = _)) _ ?_ ?_); (· first | assumption | (with_reducible assumption)); (conv => whnf))
      | (refine hX _ _ _ _ _ _ ?_; (conv => whnf); fail_if_success show False)
      | (rw [t_si]; (conv => whnf))
      | (refine ⟨_, rfl, ?_⟩; (conv => whnf))
      | (refine ⟨_, _, rfl, ?_⟩; (conv => whnf))
      | (refine ⟨_, _, _, rfl, ?_⟩; (conv => whnf))
      | (refine ⟨_, _, _, _, rfl, ?_⟩; (conv => whnf))
      | (refine And.intro (fun c => ?_) (fun c => ?_) <;> (first | (exact absurd c (by decide +kernel)) | (conv => whnf)))
      | fail)
    exact loop 0 (Nat.zero_le _) M ((hM.sc (by decide)).sl.sp t_f39) (by rw [hM 0 (by decide)]; exact h01) (by rw [t_copy hM hk])
  · rw [q_last] at hQ
    repeat' (first
      | ((with_reducible refine @And.intro (vp_in _ _) _ ?_ ?_); (· (first | with_reducible assumption | ((with_reducible refine t_vin ?_); decide) | ((with_reducible refine vp_in_nI ?_ ?_) <;> first | omega | decide) | (simp (disch := omega) only [xl_n, xl_m, nI_dec, nI_sb, nI_add, pk_mul]; (with_reducible refine vp_in_nI ?_ ?_) <;> first | omega | decide))); (conv => whnf))
      | (refine And.intro (by first | with_reducible assumption | exact (show tL _ = _ from rfl) | decide) ?_; (conv => whnf))
      | ((with_reducible refine @And.intro (_ = _) _ ?_ ?_); (· rfl); (conv => whnf))
      | ((with_reducible refine @And.intro (@LE.le Nat _ _ _) _ ?_ ?_); (· (first | exact Nat.zero_le _ | exact Nat.le_of_ble_eq_true rfl | omega)); (conv => whnf))
      | ((with_reducible refine @And.intro (@LT.lt Nat _ _ _) _ ?_ ?_); (· omega); (conv => whnf))
      | ((with_reducible refine @And.intro (∃ _, _ = _) _ ?_ ?_); (· exact ⟨_, rfl⟩); (conv => whnf))
      | ((with_reducible refine @And.intro (_ ∨ _) _ ?_ ?_); (· (first | exact Or.inl rfl | exact Or.inr rfl | exact t_b01 _ | assumption)); (conv => whnf))
      | ((with_reducible refine @And.intro (¬ (_ = _)) _ ?_ ?_); (· first | assumption | (with_reducible assumption)); (conv => whnf))
      | (refine hX _ _ _ _ _ _ ?_; (conv => whnf); fail_if_success show False)
      | (rw [t_si]; (conv => whnf))
      | (refine ⟨_, rfl, ?_⟩; (conv => whnf))
      | (refine ⟨_, _, rfl, ?_⟩; (conv => whnf))
      | (refine ⟨_, _, _, rfl, ?_⟩; (conv => whnf))
      | (refine ⟨_, _, _, _, rfl, ?_⟩; (conv => whnf))
      | (rw [e1]; (conv => whnf))
      | (refine And.intro (fun c => ?_) (fun c => ?_) <;> (first | (exact absurd c (by decide +kernel)) | (conv => whnf)))
      | fail)
    exact t_ref' hQ hg h01 (by simp [f1]) (by decide) rfl rfl
theorem ct_X11_last {Iv : xI} (hI : xm_good Iv) : xm_Ct Iv yX11_last (ws_ yX11_last cX11_last 3 (some .int)) 25 0 0 S_X11_last := xm_enter (rt := 0) (init := false) (by decide +kernel) rfl (fun h => by cases h) (Or.inl ⟨rfl, rfl⟩) (oX11_last hI) body_X11_last
theorem cv_X11_last {Iv : xI} {own : String} {cc : ByteArray} {fr pc idx : Nat} (hI : xm_good Iv) (hdg : decode cc pc = .ok (.invokevirtual idx, 3)) (hl : xm_ml own idx yX11_last) (hfr : 25 < fr) : xm_CallOK Iv own cc fr pc (pc + 3) 2 0 0 (xm_this 8 S_X11_last) := xm_callV 8 hI (ct_X11_last hI) hdg hl q2416 q2417 q145 q2418 rfl rfl (by decide +kernel) hfr (by decide)
def q_right (G : gG) : gR := g_says G (nI (g_right (gGK G) G))
abbrev bX11_right_0 : List xE := [(.aload_n 0, 1, 0, 0, 0), (.iconst 0, 2, 0, 0, 0), (.putfield 134, 5, 8, 0, 0), (.aload_n 0, 6, 0, 0, 0), (.invokevirtual 424, 9, 0, 0, 9), (.ireturn, 10, 0, 0, 0)]
abbrev kX11_right : List (Nat × List xE) := [(0, bX11_right_0)]
abbrev lX11_right : List (Nat × Nat × Nat × xS) := [(1, 0, 0, xm_this 8 S_X11_rightLines)]
theorem oX11_right_0 {Iv : xI} (hI : xm_good Iv)  : xm_okb Iv RX11 cX11_right false 8 lX11_right bX11_right_0 0 := xo_0 dX11_right_0 rfl trivial (xo_0 dX11_right_1 rfl trivial (xo_0 dX11_right_2 rfl (xm_fp_of (xm_fg_of (Or.inl q1955) (by decide) rfl (by decide) rfl rfl (Or.inl rfl) rfl) (by decide) rfl (Or.inl ⟨rfl, rfl⟩) rfl) (xo_0 dX11_right_5 rfl trivial (xo_c rfl (cv_X11_rightLines hI dX11_right_6 (Or.inl q2520) (by decide)) (xo_0 dX11_right_9 rfl trivial (xo_n))))))
theorem oX11_right {Iv : xI} (hI : xm_good Iv)  : ∀ q ∈ kX11_right, xm_okb Iv RX11 cX11_right false 8 lX11_right q.2 q.1 := by
  intro q hq
  simp only [List.mem_cons, List.not_mem_nil, or_false] at hq
  subst hq
  exact oX11_right_0 hI  
def S_X11_right : xS := tU fun as I Q => as = [.ref 0] ∧ t_good I ∧ t_P Q (q_right (tG I))
theorem body_X11_right : xm_Body 1 0 0 0 [] lX11_right kX11_right S_X11_right := by
  intro X avs w Q QX hX0 hS
  have hG := xm_go [] hX0
  have hX := xm_go [] hX0
  clear hX0
  obtain ⟨I, rfl, rfl, hg, hQ⟩ := hS
  refine ⟨rfl, ?_⟩
  repeat' (first
    | ((with_reducible refine @And.intro (vp_in _ _) _ ?_ ?_); (· (first | with_reducible assumption | ((with_reducible refine t_vin ?_); decide) | ((with_reducible refine vp_in_nI ?_ ?_) <;> first | omega | decide) | (simp (disch := omega) only [xl_n, xl_m, nI_dec, nI_sb, nI_add, pk_mul]; (with_reducible refine vp_in_nI ?_ ?_) <;> first | omega | decide))); (conv => whnf))
    | (refine And.intro (by first | with_reducible assumption | exact (show tL _ = _ from rfl) | decide) ?_; (conv => whnf))
    | ((with_reducible refine @And.intro (_ = _) _ ?_ ?_); (· rfl); (conv => whnf))
    | ((with_reducible refine @And.intro (@LE.le Nat _ _ _) _ ?_ ?_); (· (first | exact Nat.zero_le _ | exact Nat.le_of_ble_eq_true rfl | omega)); (conv => whnf))
    | ((with_reducible refine @And.intro (@LT.lt Nat _ _ _) _ ?_ ?_); (· omega); (conv => whnf))
    | ((with_reducible refine @And.intro (∃ _, _ = _) _ ?_ ?_); (· exact ⟨_, rfl⟩); (conv => whnf))
    | ((with_reducible refine @And.intro (_ ∨ _) _ ?_ ?_); (· (first | exact Or.inl rfl | exact Or.inr rfl | exact t_b01 _ | assumption)); (conv => whnf))
    | ((with_reducible refine @And.intro (¬ (_ = _)) _ ?_ ?_); (· first | assumption | (with_reducible assumption)); (conv => whnf))
    | (refine hX _ _ _ _ _ _ ?_; (conv => whnf); fail_if_success show False)
    | fail)
  rw [t_si]
  obtain ⟨J, hJ, hg1, hG1, h01⟩ := t_pub hg
  rw [← hJ]
  rw [← hG1] at hQ
  clear hJ hG1 hg I
  have hg := hg1
  have hok := hg.1
  have hl := hg.2.1
  have h8 := hok.2.2.2.1
  have h9 := hok.2.1
  (conv => whnf)
  repeat' (first
    | ((with_reducible refine @And.intro (vp_in _ _) _ ?_ ?_); (· (first | with_reducible assumption | ((with_reducible refine t_vin ?_); decide) | ((with_reducible refine vp_in_nI ?_ ?_) <;> first | omega | decide) | (simp (disch := omega) only [xl_n, xl_m, nI_dec, nI_sb, nI_add, pk_mul]; (with_reducible refine vp_in_nI ?_ ?_) <;> first | omega | decide))); (conv => whnf))
    | (refine And.intro (by first | with_reducible assumption | exact (show tL _ = _ from rfl) | decide) ?_; (conv => whnf))
    | ((with_reducible refine @And.intro (_ = _) _ ?_ ?_); (· rfl); (conv => whnf))
    | ((with_reducible refine @And.intro (@LE.le Nat _ _ _) _ ?_ ?_); (· (first | exact Nat.zero_le _ | exact Nat.le_of_ble_eq_true rfl | omega)); (conv => whnf))
    | ((with_reducible refine @And.intro (@LT.lt Nat _ _ _) _ ?_ ?_); (· omega); (conv => whnf))
    | ((with_reducible refine @And.intro (∃ _, _ = _) _ ?_ ?_); (· exact ⟨_, rfl⟩); (conv => whnf))
    | ((with_reducible refine @And.intro (_ ∨ _) _ ?_ ?_); (· (first | exact Or.inl rfl | exact Or.inr rfl | exact t_b01 _ | assumption)); (conv => whnf))
    | ((with_reducible refine @And.intro (¬ (_ = _)) _ ?_ ?_); (· first | assumption | (with_reducible assumption)); (conv => whnf))
    | (refine hX _ _ _ _ _ _ ?_; (conv => whnf); fail_if_success show False)
    | (rw [t_si]; (conv => whnf))
    | (refine ⟨_, rfl, ?_⟩; (conv => whnf))
    | (refine ⟨_, _, rfl, ?_⟩; (conv => whnf))
    | (refine ⟨_, _, _, rfl, ?_⟩; (conv => whnf))
    | (refine ⟨_, _, _, _, rfl, ?_⟩; (conv => whnf))
    | (refine And.intro (fun c => ?_) (fun c => ?_) <;> (first | (exact absurd c (by decide +kernel)) | (conv => whnf)))
    | fail)
  intro M hM h0
  (conv => whnf)
  repeat' (first
    | ((with_reducible refine @And.intro (vp_in _ _) _ ?_ ?_); (· (first | with_reducible assumption | ((with_reducible refine t_vin ?_); decide) | ((with_reducible refine vp_in_nI ?_ ?_) <;> first | omega | decide) | (simp (disch := omega) only [xl_n, xl_m, nI_dec, nI_sb, nI_add, pk_mul]; (with_reducible refine vp_in_nI ?_ ?_) <;> first | omega | decide))); (conv => whnf))
    | (refine And.intro (by first | with_reducible assumption | exact (show tL _ = _ from rfl) | decide) ?_; (conv => whnf))
    | ((with_reducible refine @And.intro (_ = _) _ ?_ ?_); (· rfl); (conv => whnf))
    | ((with_reducible refine @And.intro (@LE.le Nat _ _ _) _ ?_ ?_); (· (first | exact Nat.zero_le _ | exact Nat.le_of_ble_eq_true rfl | omega)); (conv => whnf))
    | ((with_reducible refine @And.intro (@LT.lt Nat _ _ _) _ ?_ ?_); (· omega); (conv => whnf))
    | ((with_reducible refine @And.intro (∃ _, _ = _) _ ?_ ?_); (· exact ⟨_, rfl⟩); (conv => whnf))
    | ((with_reducible refine @And.intro (_ ∨ _) _ ?_ ?_); (· (first | exact Or.inl rfl | exact Or.inr rfl | exact t_b01 _ | assumption)); (conv => whnf))
    | ((with_reducible refine @And.intro (¬ (_ = _)) _ ?_ ?_); (· first | assumption | (with_reducible assumption)); (conv => whnf))
    | (refine hX _ _ _ _ _ _ ?_; (conv => whnf); fail_if_success show False)
    | (rw [t_si]; (conv => whnf))
    | (refine ⟨_, rfl, ?_⟩; (conv => whnf))
    | (refine ⟨_, _, rfl, ?_⟩; (conv => whnf))
    | (refine ⟨_, _, _, rfl, ?_⟩; (conv => whnf))
    | (refine ⟨_, _, _, _, rfl, ?_⟩; (conv => whnf))
    | (refine And.intro (fun c => ?_) (fun c => ?_) <;> (first | (exact absurd c (by decide +kernel)) | (conv => whnf)))
    | fail)
  exact t_ask hQ hg hM (h0.trans h01) rfl
theorem ct_X11_right {Iv : xI} (hI : xm_good Iv) : xm_Ct Iv yX11_right (ws_ yX11_right cX11_right 1 (some .int)) 8 0 0 S_X11_right := xm_enter (rt := 0) (init := false) (by decide +kernel) rfl (fun h => by cases h) (Or.inl ⟨rfl, rfl⟩) (oX11_right hI) body_X11_right
theorem cv_X11_right {Iv : xI} {own : String} {cc : ByteArray} {fr pc idx : Nat} (hI : xm_good Iv) (hdg : decode cc pc = .ok (.invokevirtual idx, 3)) (hl : xm_ml own idx yX11_right) (hfr : 8 < fr) : xm_CallOK Iv own cc fr pc (pc + 3) 1 0 0 (xm_this 8 S_X11_right) := xm_callV 8 hI (ct_X11_right hI) hdg hl q2517 q2518 q145 q2519 rfl rfl (by decide +kernel) hfr (by decide)
def g_limps (G : gG) (h n : Nat) : Int32 := t_or n fun v => decide (g_right (g_limpK (gGK G) h (nI v)) G = glns G)
def q_limps (G : gG) (a : Int32) : gR := g_ck G (g_isH G a) (nI 1) 0 (g_says G (g_limps G a.toNatClampNeg 10))
theorem g_right_N {K : gK} {G G' : gG} (h : G.2.2 = G'.2.2) : g_right K G = g_right K G' := by
  obtain ⟨a, b, c⟩ := G
  obtain ⟨a', b', c'⟩ := G'
  have h : c = c' := h
  subst h
  rfl
theorem tN_u {J : tI} {a k : Nat} {v : Int32} (h : 110 ≤ a ∧ a < 180) : tN (xm_u2 J a k v) = tN J := by
  have o : ∀ b, b ≠ a → xm_u2 J a k v b = J b := fun b hb => funext fun j => xm_u2_ne hb j
  have e1 : ∀ k', tA (xm_u2 J a k v) (640 + k') = tA J (640 + k') := fun k' => tA_u (by omega)
  have e2 : ∀ k', xm_u2 J a k v (600 + k') = J (600 + k') := fun k' => o _ (by omega)
  unfold tN t_im t_l t_tp
  rw [o 0 (by omega), o 9 (by omega), o 10 (by omega), tA_u (show 38 ≠ a by omega), tA_u (show 36 ≠ a by omega), tA_u (show 37 ≠ a by omega)]
  simp only [e1, e2]
theorem g_pre_le {P : Nat → Bool} : ∀ f k, g_pre P f k ≤ k + f
  | 0, k => Nat.le_refl _
  | f + 1, k => by
    rw [g_pre_s]
    split
    · have := g_pre_le (P := P) f (k + 1)
      omega
    · omega
abbrev bX11_limps_0 : List xE := [(.aload_n 0, 1, 0, 0, 0), (.iconst 0, 2, 0, 0, 0), (.putfield 134, 5, 8, 0, 0), (.aload_n 0, 6, 0, 0, 0), (.aload_n 0, 7, 0, 0, 0), (.iload_n 1, 8, 0, 0, 0), (.invokevirtual 331, 11, 0, 0, 9), (.ifCond .ne 7, 14, 0, 18, 0), (.iconst 1, 15, 0, 0, 0), (.goto 4, 18, 0, 19, 0)]
abbrev bX11_limps_18 : List xE := [(.iconst 0, 19, 0, 0, 0)]
abbrev bX11_limps_19 : List xE := [(.iconst 1, 20, 0, 0, 0), (.iconst 0, 21, 0, 0, 0), (.invokevirtual 249, 24, 0, 1, 9), (.ifCond .eq 5, 27, 0, 29, 0), (.iconst 0, 28, 0, 0, 0), (.ireturn, 29, 0, 0, 0)]
abbrev bX11_limps_29 : List xE := [(.aload_n 0, 30, 0, 0, 0), (.getfield 49, 33, 8, 20, 1), (.iload_n 1, 34, 0, 0, 0), (.aaload, 35, 0, 0, 0), (.iconst 0, 36, 0, 0, 0), (.iaload, 37, 0, 0, 0), (.istore_n 2, 38, 0, 0, 0), (.iconst 0, 39, 0, 0, 0), (.istore_n 3, 40, 0, 0, 0), (.iconst 0, 41, 0, 0, 0), (.istore 4, 43, 0, 0, 0)]
abbrev bX11_limps_43 : List xE := [(.iload 4, 45, 0, 0, 0), (.bipush 10, 47, 0, 0, 0), (.if_icmp .ge 41, 50, 0, 88, 0), (.aload_n 0, 51, 0, 0, 0), (.getfield 49, 54, 8, 20, 1), (.iload_n 1, 55, 0, 0, 0), (.aaload, 56, 0, 0, 0), (.iconst 0, 57, 0, 0, 0), (.iload 4, 59, 0, 0, 0), (.iastore, 60, 0, 0, 0), (.iload_n 3, 61, 0, 0, 0), (.aload_n 0, 62, 0, 0, 0), (.invokevirtual 424, 65, 0, 2, 9), (.aload_n 0, 66, 0, 0, 0), (.getfield 273, 69, 8, 41, 0), (.if_icmp .ne 10, 72, 0, 79, 0), (.iconst 1, 73, 0, 0, 0), (.iload 4, 75, 0, 0, 0), (.ishl, 76, 0, 0, 0), (.goto 4, 79, 0, 80, 0)]
abbrev bX11_limps_79 : List xE := [(.iconst 0, 80, 0, 0, 0)]
abbrev bX11_limps_80 : List xE := [(.ior, 81, 0, 0, 0), (.istore_n 3, 82, 0, 0, 0), (.iinc 4 1, 85, 0, 0, 0), (.goto (-42), 88, 0, 43, 0)]
abbrev bX11_limps_88 : List xE := [(.aload_n 0, 89, 0, 0, 0), (.getfield 49, 92, 8, 20, 1), (.iload_n 1, 93, 0, 0, 0), (.aaload, 94, 0, 0, 0), (.iconst 0, 95, 0, 0, 0), (.iload_n 2, 96, 0, 0, 0), (.iastore, 97, 0, 0, 0), (.iload_n 3, 98, 0, 0, 0), (.ireturn, 99, 0, 0, 0)]
abbrev kX11_limps : List (Nat × List xE) := [(0, bX11_limps_0), (18, bX11_limps_18), (19, bX11_limps_19), (29, bX11_limps_29), (43, bX11_limps_43), (79, bX11_limps_79), (80, bX11_limps_80), (88, bX11_limps_88)]
abbrev lX11_limps : List (Nat × Nat × Nat × xS) := [(2, 0, 0, xm_this 8 S_X11_isHand), (4, 0, 0, xm_this 8 S_X11_bad), (1, 0, 0, xm_this 8 S_X11_rightLines)]
theorem oX11_limps_0 {Iv : xI} (hI : xm_good Iv)  : xm_okb Iv RX11 cX11_limps false 8 lX11_limps bX11_limps_0 0 := xo_0 dX11_limps_0 rfl trivial (xo_0 dX11_limps_1 rfl trivial (xo_0 dX11_limps_2 rfl (xm_fp_of (xm_fg_of (Or.inl q1955) (by decide) rfl (by decide) rfl rfl (Or.inl rfl) rfl) (by decide) rfl (Or.inl ⟨rfl, rfl⟩) rfl) (xo_0 dX11_limps_5 rfl trivial (xo_0 dX11_limps_6 rfl trivial (xo_0 dX11_limps_7 rfl trivial (xo_c rfl (cv_X11_isHand hI dX11_limps_8 (Or.inl q2304) (by decide)) (xo_0 dX11_limps_11 rfl rfl (xo_0 dX11_limps_14 rfl trivial (xo_0 dX11_limps_15 rfl rfl (xo_n))))))))))
theorem oX11_limps_18 {Iv : xI} (hI : xm_good Iv)  : xm_okb Iv RX11 cX11_limps false 8 lX11_limps bX11_limps_18 18 := xo_0 dX11_limps_18 rfl trivial (xo_n)
theorem oX11_limps_19 {Iv : xI} (hI : xm_good Iv)  : xm_okb Iv RX11 cX11_limps false 8 lX11_limps bX11_limps_19 19 := xo_0 dX11_limps_19 rfl trivial (xo_0 dX11_limps_20 rfl trivial (xo_c rfl (cv_X11_bad hI dX11_limps_21 (Or.inl q2137) (by decide)) (xo_0 dX11_limps_24 rfl rfl (xo_0 dX11_limps_27 rfl trivial (xo_0 dX11_limps_28 rfl trivial (xo_n))))))
theorem oX11_limps_29 {Iv : xI} (hI : xm_good Iv)  : xm_okb Iv RX11 cX11_limps false 8 lX11_limps bX11_limps_29 29 := xo_0 dX11_limps_29 rfl trivial (xo_1 dX11_limps_30 rfl (xm_fg_of (Or.inl q1975) (by decide) rfl (by decide) rfl rfl (Or.inl rfl) rfl) (xo_0 dX11_limps_33 rfl trivial (xo_0 dX11_limps_34 rfl trivial (xo_0 dX11_limps_35 rfl trivial (xo_0 dX11_limps_36 rfl trivial (xo_0 dX11_limps_37 rfl trivial (xo_0 dX11_limps_38 rfl trivial (xo_0 dX11_limps_39 rfl trivial (xo_0 dX11_limps_40 rfl trivial (xo_0 dX11_limps_41 rfl trivial (xo_n)))))))))))
theorem oX11_limps_43 {Iv : xI} (hI : xm_good Iv)  : xm_okb Iv RX11 cX11_limps false 8 lX11_limps bX11_limps_43 43 := xo_0 dX11_limps_43 rfl trivial (xo_0 dX11_limps_45 rfl (xo_bipush (by decide +kernel)) (xo_0 dX11_limps_47 rfl rfl (xo_0 dX11_limps_50 rfl trivial (xo_1 dX11_limps_51 rfl (xm_fg_of (Or.inl q1975) (by decide) rfl (by decide) rfl rfl (Or.inl rfl) rfl) (xo_0 dX11_limps_54 rfl trivial (xo_0 dX11_limps_55 rfl trivial (xo_0 dX11_limps_56 rfl trivial (xo_0 dX11_limps_57 rfl trivial (xo_0 dX11_limps_59 rfl trivial (xo_0 dX11_limps_60 rfl trivial (xo_0 dX11_limps_61 rfl trivial (xo_c rfl (cv_X11_rightLines hI dX11_limps_62 (Or.inl q2520) (by decide)) (xo_0 dX11_limps_65 rfl trivial (xo_0 dX11_limps_66 rfl (xm_fg_of (Or.inl q1996) (by decide) rfl (by decide) rfl rfl (Or.inl rfl) rfl) (xo_0 dX11_limps_69 rfl rfl (xo_0 dX11_limps_72 rfl trivial (xo_0 dX11_limps_73 rfl trivial (xo_0 dX11_limps_75 rfl trivial (xo_0 dX11_limps_76 rfl rfl (xo_n))))))))))))))))))))
theorem oX11_limps_79 {Iv : xI} (hI : xm_good Iv)  : xm_okb Iv RX11 cX11_limps false 8 lX11_limps bX11_limps_79 79 := xo_0 dX11_limps_79 rfl trivial (xo_n)
theorem oX11_limps_80 {Iv : xI} (hI : xm_good Iv)  : xm_okb Iv RX11 cX11_limps false 8 lX11_limps bX11_limps_80 80 := xo_0 dX11_limps_80 rfl trivial (xo_0 dX11_limps_81 rfl trivial (xo_0 dX11_limps_82 rfl trivial (xo_0 dX11_limps_85 rfl rfl (xo_n))))
theorem oX11_limps_88 {Iv : xI} (hI : xm_good Iv)  : xm_okb Iv RX11 cX11_limps false 8 lX11_limps bX11_limps_88 88 := xo_0 dX11_limps_88 rfl trivial (xo_1 dX11_limps_89 rfl (xm_fg_of (Or.inl q1975) (by decide) rfl (by decide) rfl rfl (Or.inl rfl) rfl) (xo_0 dX11_limps_92 rfl trivial (xo_0 dX11_limps_93 rfl trivial (xo_0 dX11_limps_94 rfl trivial (xo_0 dX11_limps_95 rfl trivial (xo_0 dX11_limps_96 rfl trivial (xo_0 dX11_limps_97 rfl trivial (xo_0 dX11_limps_98 rfl trivial (xo_n)))))))))
theorem oX11_limps {Iv : xI} (hI : xm_good Iv)  : ∀ q ∈ kX11_limps, xm_okb Iv RX11 cX11_limps false 8 lX11_limps q.2 q.1 := by
  intro q hq
  simp only [List.mem_cons, List.not_mem_nil, or_false] at hq
  rcases hq with rfl | rfl | rfl | rfl | rfl | rfl | rfl | rfl
  · exact oX11_limps_0 hI  
  · exact oX11_limps_18 hI  
  · exact oX11_limps_19 hI  
  · exact oX11_limps_29 hI  
  · exact oX11_limps_43 hI  
  · exact oX11_limps_79 hI  
  · exact oX11_limps_80 hI  
  · exact oX11_limps_88 hI  
def S_X11_limps : xS := tU fun as I Q => ∃ a, as = [.ref 0, .int a] ∧ t_good I ∧ t_P Q (q_limps (tG I) a)
theorem body_X11_limps : xm_Body 5 0 0 0 [] lX11_limps kX11_limps S_X11_limps := by
  intro X avs w Q QX hX0 hS
  have hG := xm_go [] hX0
  have hX := xm_go [43] hX0
  clear hX0
  obtain ⟨I, rfl, a, rfl, hg, hQ⟩ := hS
  refine ⟨rfl, ?_⟩
  repeat' (first
    | ((with_reducible refine @And.intro (vp_in _ _) _ ?_ ?_); (· (first | with_reducible assumption | ((with_reducible refine t_vin ?_); decide) | ((with_reducible refine vp_in_nI ?_ ?_) <;> first | omega | decide) | (simp (disch := omega) only [xl_n, xl_m, nI_dec, nI_sb, nI_add, pk_mul]; (with_reducible refine vp_in_nI ?_ ?_) <;> first | omega | decide))); (conv => whnf))
    | (refine And.intro (by first | with_reducible assumption | exact (show tL _ = _ from rfl) | decide) ?_; (conv => whnf))
    | ((with_reducible refine @And.intro (_ = _) _ ?_ ?_); (· rfl); (conv => whnf))
    | ((with_reducible refine @And.intro (@LE.le Nat _ _ _) _ ?_ ?_); (· (first | exact Nat.zero_le _ | exact Nat.le_of_ble_eq_true rfl | omega)); (conv => whnf))
    | ((with_reducible refine @And.intro (@LT.lt Nat _ _ _) _ ?_ ?_); (· omega); (conv => whnf))
    | ((with_reducible refine @And.intro (∃ _, _ = _) _ ?_ ?_); (· exact ⟨_, rfl⟩); (conv => whnf))
    | ((with_reducible refine @And.intro (_ ∨ _) _ ?_ ?_); (· (first | exact Or.inl rfl | exact Or.inr rfl | exact t_b01 _ | assumption)); (conv => whnf))
    | ((with_reducible refine @And.intro (¬ (_ = _)) _ ?_ ?_); (· first | assumption | (with_reducible assumption)); (conv => whnf))
    | (refine hX _ _ _ _ _ _ ?_; (conv => whnf); fail_if_success show False)
    | fail)
  rw [t_si]
  obtain ⟨J, hJ, hg1, hG1, h01⟩ := t_pub hg
  rw [← hJ]
  rw [← hG1] at hQ
  clear hJ hG1 hg I
  have hg := hg1
  have hok := hg.1
  have hl := hg.2.1
  have h8 := hok.2.2.2.1
  have h9 := hok.2.1
  (conv => whnf)
  rcases t_hc hg a with ⟨h, hh, rfl, e1, f1⟩ | ⟨e1, f1⟩
  · rw [q_limps, f1, nI_clamp (by omega)] at hQ
    have nf : ¬ t_free (110 + h) := t_nf (by omega)
    have hll := hg.2.2.2.1
    have loop : ∀ k, k ≤ 10 → ∀ M w, t_sp (xm_u2 J (110 + h) 0 w) M → M 0 0 = nI 0 → X 43 [some (.ref 0), some (.int (nI h)), some (.int (J (110 + h) 0)), some (.int (g_limps (tG J) h k)), some (.int (nI k))] [] (tW M) 0 0 := by
      refine t_for fun k h1 ih M w hM h0 => ?_
      have nx := ih (k + 1)
      clear ih
      refine hG _ _ _ _ _ _ ?_
      (conv => whnf)
      repeat' (first
        | ((with_reducible refine @And.intro (vp_in _ _) _ ?_ ?_); (· (first | with_reducible assumption | ((with_reducible refine t_vin ?_); decide) | ((with_reducible refine vp_in_nI ?_ ?_) <;> first | omega | decide) | (simp (disch := omega) only [xl_n, xl_m, nI_dec, nI_sb, nI_add, pk_mul]; (with_reducible refine vp_in_nI ?_ ?_) <;> first | omega | decide))); (conv => whnf))
        | (refine And.intro (by first | with_reducible assumption | exact (show tL _ = _ from rfl) | decide) ?_; (conv => whnf))
        | ((with_reducible refine @And.intro (_ = _) _ ?_ ?_); (· rfl); (conv => whnf))
        | ((with_reducible refine @And.intro (@LE.le Nat _ _ _) _ ?_ ?_); (· (first | exact Nat.zero_le _ | exact Nat.le_of_ble_eq_true rfl | omega)); (conv => whnf))
        | ((with_reducible refine @And.intro (@LT.lt Nat _ _ _) _ ?_ ?_); (· omega); (conv => whnf))
        | ((with_reducible refine @And.intro (∃ _, _ = _) _ ?_ ?_); (· exact ⟨_, rfl⟩); (conv => whnf))
        | ((with_reducible refine @And.intro (_ ∨ _) _ ?_ ?_); (· (first | exact Or.inl rfl | exact Or.inr rfl | exact t_b01 _ | assumption)); (conv => whnf))
        | ((with_reducible refine @And.intro (¬ (_ = _)) _ ?_ ?_); (· first | assumption | (with_reducible assumption)); (conv => whnf))
        | (refine hX _ _ _ _ _ _ ?_; (conv => whnf); fail_if_success show False)
        | (rw [t_si]; (conv => whnf))
        | (refine ⟨_, rfl, ?_⟩; (conv => whnf))
        | (refine ⟨_, _, rfl, ?_⟩; (conv => whnf))
        | (refine ⟨_, _, _, rfl, ?_⟩; (conv => whnf))
        | (refine ⟨_, _, _, _, rfl, ?_⟩; (conv => whnf))
        | fail)
      refine And.intro (fun c => ?_) (fun c => ?_) <;> (conv => whnf)
      · have : k = 10 := Nat.le_antisymm h1 (t_kge (n := 10) rfl c (by omega) (by omega))
        subst this
        repeat' (first
          | ((with_reducible refine @And.intro (vp_in _ _) _ ?_ ?_); (· (first | with_reducible assumption | ((with_reducible refine t_vin ?_); decide) | ((with_reducible refine vp_in_nI ?_ ?_) <;> first | omega | decide) | (simp (disch := omega) only [xl_n, xl_m, nI_dec, nI_sb, nI_add, pk_mul]; (with_reducible refine vp_in_nI ?_ ?_) <;> first | omega | decide))); (conv => whnf))
          | (refine And.intro (by first | with_reducible assumption | exact (show tL _ = _ from rfl) | decide) ?_; (conv => whnf))
          | ((with_reducible refine @And.intro (_ = _) _ ?_ ?_); (· rfl); (conv => whnf))
          | ((with_reducible refine @And.intro (@LE.le Nat _ _ _) _ ?_ ?_); (· (first | exact Nat.zero_le _ | exact Nat.le_of_ble_eq_true rfl | omega)); (conv => whnf))
          | ((with_reducible refine @And.intro (@LT.lt Nat _ _ _) _ ?_ ?_); (· omega); (conv => whnf))
          | ((with_reducible refine @And.intro (∃ _, _ = _) _ ?_ ?_); (· exact ⟨_, rfl⟩); (conv => whnf))
          | ((with_reducible refine @And.intro (_ ∨ _) _ ?_ ?_); (· (first | exact Or.inl rfl | exact Or.inr rfl | exact t_b01 _ | assumption)); (conv => whnf))
          | ((with_reducible refine @And.intro (¬ (_ = _)) _ ?_ ?_); (· first | assumption | (with_reducible assumption)); (conv => whnf))
          | (refine hX _ _ _ _ _ _ ?_; (conv => whnf); fail_if_success show False)
          | (rw [t_si]; simp (disch := omega) only [xl_n, xl_m, nI_dec, nI_sb, xl_0, xl_1, tW_i, t_bn0, t_bn1, Classical.not_not, t_lt, nI_add, nI_1, pk_mul, nI_clamp, t_si, nI_eq, nI_leI, nM_ne, nM_ne, xm_u2_ne, xm_u2_at, reduceIte, tK_u, tA_u, Nat.reduceEqDiff]; (conv => whnf))
          | (refine ⟨_, rfl, ?_⟩; (conv => whnf))
          | (refine ⟨_, _, rfl, ?_⟩; (conv => whnf))
          | (refine ⟨_, _, _, rfl, ?_⟩; (conv => whnf))
          | (refine ⟨_, _, _, _, rfl, ?_⟩; (conv => whnf))
          | (rw [t_l110 (by first | with_reducible assumption | omega | exact vp_lt (by assumption) | (rw [nI_clamp (by omega)]; omega))]; (conv => whnf))
          | (refine And.intro (fun c => ?_) (fun c => ?_) <;> (first | (exact absurd c (by decide +kernel)) | (conv => whnf)))
          | fail)
        have s1 := t_sp_put (v := J (110 + h) 0) hM (by omega) nf
        rw [xm_u2_self] at s1
        rw [g_ck_t] at hQ
        exact t_ask hQ hg s1 (by rw [xm_u2_ne (by omega)]; exact h0) rfl
      · have hk : k < 10 := t_klt (n := 10) rfl c (by omega)
        have s1 : t_sp (xm_u2 J (110 + h) 0 (nI k)) (xm_u2 M (110 + h) 0 (nI k)) := t_sp_put hM (by omega) nf
        have hgL : t_good (xm_u2 J (110 + h) 0 (nI k)) := good_limp hg (by omega)
        have hgM := s1.good hgL
        have eK : tK (xm_u2 M (110 + h) 0 (nI k)) = g_limpK (tK J) h (nI k) := by rw [s1.same.K hgL, tK_limpu hl hh h9]
        have nx' := fun L => nx (by omega) (by omega) L (nI k)
        clear nx
        repeat' (first
          | ((with_reducible refine @And.intro (vp_in _ _) _ ?_ ?_); (· (first | with_reducible assumption | ((with_reducible refine t_vin ?_); decide) | ((with_reducible refine vp_in_nI ?_ ?_) <;> first | omega | decide) | (simp (disch := omega) only [xl_n, xl_m, nI_dec, nI_sb, nI_add, pk_mul]; (with_reducible refine vp_in_nI ?_ ?_) <;> first | omega | decide))); (conv => whnf))
          | (refine And.intro (by first | with_reducible assumption | exact (show tL _ = _ from rfl) | decide) ?_; (conv => whnf))
          | ((with_reducible refine @And.intro (_ = _) _ ?_ ?_); (· rfl); (conv => whnf))
          | ((with_reducible refine @And.intro (@LE.le Nat _ _ _) _ ?_ ?_); (· (first | exact Nat.zero_le _ | exact Nat.le_of_ble_eq_true rfl | omega)); (conv => whnf))
          | ((with_reducible refine @And.intro (@LT.lt Nat _ _ _) _ ?_ ?_); (· omega); (conv => whnf))
          | ((with_reducible refine @And.intro (∃ _, _ = _) _ ?_ ?_); (· exact ⟨_, rfl⟩); (conv => whnf))
          | ((with_reducible refine @And.intro (_ ∨ _) _ ?_ ?_); (· (first | exact Or.inl rfl | exact Or.inr rfl | exact t_b01 _ | assumption)); (conv => whnf))
          | ((with_reducible refine @And.intro (¬ (_ = _)) _ ?_ ?_); (· first | assumption | (with_reducible assumption)); (conv => whnf))
          | (refine hX _ _ _ _ _ _ ?_; (conv => whnf); fail_if_success show False)
          | (rw [t_si]; simp (disch := omega) only [xl_n, xl_m, nI_dec, nI_sb, xl_0, xl_1, tW_i, t_bn0, t_bn1, Classical.not_not, t_lt, nI_add, nI_1, pk_mul, nI_clamp, t_si, nI_eq, nI_leI, nM_ne, nM_ne, xm_u2_ne, xm_u2_at, reduceIte, tK_u, tA_u, Nat.reduceEqDiff]; (conv => whnf))
          | (refine ⟨_, rfl, ?_⟩; (conv => whnf))
          | (refine ⟨_, _, rfl, ?_⟩; (conv => whnf))
          | (refine ⟨_, _, _, rfl, ?_⟩; (conv => whnf))
          | (refine ⟨_, _, _, _, rfl, ?_⟩; (conv => whnf))
          | (rw [t_l110 (by first | with_reducible assumption | omega | exact vp_lt (by assumption) | (rw [nI_clamp (by omega)]; omega))]; (conv => whnf))
          | (refine And.intro (fun c => ?_) (fun c => ?_) <;> (first | (exact absurd c (by decide +kernel)) | (conv => whnf)))
          | fail)
        intro L hL h0L
        have er : g_right (tK (xm_u2 M (110 + h) 0 (nI k))) (tG (xm_u2 M (110 + h) 0 (nI k))) = g_right (g_limpK (tK J) h (nI k)) (tG J) := by
          rw [eK]
          exact g_right_N ((s1.N hgL).trans (tN_u (by omega)))
        rw [er]
        have nx2 := nx' L (s1.tr hL) (h0L.trans (by rw [xm_u2_ne (by omega)]; exact h0))
        have e41 : L 0 41 = nI (t_l J) := by
          rw [hL.2 41 (by decide) (by unfold t_scf; omega) (by decide), xm_u2_ne (by omega), hM.2 41 (by decide) (by unfold t_scf; omega) (by decide), xm_u2_ne (by omega)]
          exact hll.1
        have hr12 : g_right (g_limpK (tK J) h (nI k)) (tG J) ≤ 0 + t_l J := g_pre_le _ _
        have es : g_limps (tG J) h (k + 1) = g_limps (tG J) h k ||| (if decide (g_right (g_limpK (tK J) h (nI k)) (tG J) = t_l J) = true then t_bit k else nI 0) := rfl
        have hl12 := hll.2
        (conv => whnf)
        repeat' (first
          | ((with_reducible refine @And.intro (vp_in _ _) _ ?_ ?_); (· (first | with_reducible assumption | ((with_reducible refine t_vin ?_); decide) | ((with_reducible refine vp_in_nI ?_ ?_) <;> first | omega | decide) | (simp (disch := omega) only [xl_n, xl_m, nI_dec, nI_sb, nI_add, pk_mul]; (with_reducible refine vp_in_nI ?_ ?_) <;> first | omega | decide))); (conv => whnf))
          | (refine And.intro (by first | with_reducible assumption | exact (show tL _ = _ from rfl) | decide) ?_; (conv => whnf))
          | ((with_reducible refine @And.intro (_ = _) _ ?_ ?_); (· rfl); (conv => whnf))
          | ((with_reducible refine @And.intro (@LE.le Nat _ _ _) _ ?_ ?_); (· (first | exact Nat.zero_le _ | exact Nat.le_of_ble_eq_true rfl | omega)); (conv => whnf))
          | ((with_reducible refine @And.intro (@LT.lt Nat _ _ _) _ ?_ ?_); (· omega); (conv => whnf))
          | ((with_reducible refine @And.intro (∃ _, _ = _) _ ?_ ?_); (· exact ⟨_, rfl⟩); (conv => whnf))
          | ((with_reducible refine @And.intro (_ ∨ _) _ ?_ ?_); (· (first | exact Or.inl rfl | exact Or.inr rfl | exact t_b01 _ | assumption)); (conv => whnf))
          | ((with_reducible refine @And.intro (¬ (_ = _)) _ ?_ ?_); (· first | assumption | (with_reducible assumption)); (conv => whnf))
          | (refine hX _ _ _ _ _ _ ?_; (conv => whnf); fail_if_success show False)
          | (rw [t_si]; (conv => whnf))
          | (refine ⟨_, rfl, ?_⟩; (conv => whnf))
          | (refine ⟨_, _, rfl, ?_⟩; (conv => whnf))
          | (refine ⟨_, _, _, rfl, ?_⟩; (conv => whnf))
          | (refine ⟨_, _, _, _, rfl, ?_⟩; (conv => whnf))
          | (refine And.intro (fun c => ?_) (fun c => ?_) <;> (first | (exact absurd c (by decide +kernel)) | (conv => whnf)))
          | fail)
        · have c' : ¬ nI (g_right (g_limpK (tK J) h (nI k)) (tG J)) = L 0 41 := by assumption
          rw [e41, nI_eq (by omega) (by omega)] at c'
          rw [es, decide_eq_false c', if_neg (by decide)] at nx2
          clear hX hG hQ nx'
          simp (disch := omega) only [xl_n, xl_m, nI_dec, nI_sb, xl_0, xl_1, tW_i, t_bn0, t_bn1, Classical.not_not, t_lt, nI_add, nI_1, pk_mul, nI_clamp, t_si, nI_eq, nI_leI, nM_ne, nM_ne, xm_set, xm_lv0, xm_psh] at *
          exact nx2
        · have c' : nI (g_right (g_limpK (tK J) h (nI k)) (tG J)) = L 0 41 := Classical.not_not.mp (by assumption)
          rw [e41, nI_eq (by omega) (by omega)] at c'
          rw [es, decide_eq_true c', if_pos rfl] at nx2
          clear hX hG hQ nx'
          simp (disch := omega) only [xl_n, xl_m, nI_dec, nI_sb, xl_0, xl_1, tW_i, t_bn0, t_bn1, Classical.not_not, t_lt, nI_add, nI_1, pk_mul, nI_clamp, t_si, nI_eq, nI_leI, nM_ne, nM_ne, xm_set, xm_lv0, xm_psh] at *
          exact nx2
    repeat' (first
      | ((with_reducible refine @And.intro (vp_in _ _) _ ?_ ?_); (· (first | with_reducible assumption | ((with_reducible refine t_vin ?_); decide) | ((with_reducible refine vp_in_nI ?_ ?_) <;> first | omega | decide) | (simp (disch := omega) only [xl_n, xl_m, nI_dec, nI_sb, nI_add, pk_mul]; (with_reducible refine vp_in_nI ?_ ?_) <;> first | omega | decide))); (conv => whnf))
      | (refine And.intro (by first | with_reducible assumption | exact (show tL _ = _ from rfl) | decide) ?_; (conv => whnf))
      | ((with_reducible refine @And.intro (_ = _) _ ?_ ?_); (· rfl); (conv => whnf))
      | ((with_reducible refine @And.intro (@LE.le Nat _ _ _) _ ?_ ?_); (· (first | exact Nat.zero_le _ | exact Nat.le_of_ble_eq_true rfl | omega)); (conv => whnf))
      | ((with_reducible refine @And.intro (@LT.lt Nat _ _ _) _ ?_ ?_); (· omega); (conv => whnf))
      | ((with_reducible refine @And.intro (∃ _, _ = _) _ ?_ ?_); (· exact ⟨_, rfl⟩); (conv => whnf))
      | ((with_reducible refine @And.intro (_ ∨ _) _ ?_ ?_); (· (first | exact Or.inl rfl | exact Or.inr rfl | exact t_b01 _ | assumption)); (conv => whnf))
      | ((with_reducible refine @And.intro (¬ (_ = _)) _ ?_ ?_); (· first | assumption | (with_reducible assumption)); (conv => whnf))
      | (refine hX _ _ _ _ _ _ ?_; (conv => whnf); fail_if_success show False)
      | (rw [t_si]; (conv => whnf))
      | (refine ⟨_, rfl, ?_⟩; (conv => whnf))
      | (refine ⟨_, _, rfl, ?_⟩; (conv => whnf))
      | (refine ⟨_, _, _, rfl, ?_⟩; (conv => whnf))
      | (refine ⟨_, _, _, _, rfl, ?_⟩; (conv => whnf))
      | (rw [t_l110 (by first | with_reducible assumption | omega | exact vp_lt (by assumption) | (rw [nI_clamp (by omega)]; omega))]; (conv => whnf))
      | (rw [e1]; (conv => whnf))
      | (refine And.intro (fun c => ?_) (fun c => ?_) <;> (first | (exact absurd c (by decide +kernel)) | (conv => whnf)))
      | fail)
    have := loop 0 (Nat.zero_le _) J (J (110 + h) 0) (by rw [xm_u2_self]; exact t_sp.rf) h01
    clear hX hG hQ loop
    simp (disch := omega) only [xl_n, xl_m, nI_dec, nI_sb, xl_0, xl_1, tW_i, t_bn0, t_bn1, Classical.not_not, t_lt, nI_add, nI_1, pk_mul, nI_clamp, t_si, nI_eq, nI_leI, nM_ne, nM_ne, xm_set, xm_lv0, xm_psh] at *
    exact this
  · rw [q_limps] at hQ
    repeat' (first
      | ((with_reducible refine @And.intro (vp_in _ _) _ ?_ ?_); (· (first | with_reducible assumption | ((with_reducible refine t_vin ?_); decide) | ((with_reducible refine vp_in_nI ?_ ?_) <;> first | omega | decide) | (simp (disch := omega) only [xl_n, xl_m, nI_dec, nI_sb, nI_add, pk_mul]; (with_reducible refine vp_in_nI ?_ ?_) <;> first | omega | decide))); (conv => whnf))
      | (refine And.intro (by first | with_reducible assumption | exact (show tL _ = _ from rfl) | decide) ?_; (conv => whnf))
      | ((with_reducible refine @And.intro (_ = _) _ ?_ ?_); (· rfl); (conv => whnf))
      | ((with_reducible refine @And.intro (@LE.le Nat _ _ _) _ ?_ ?_); (· (first | exact Nat.zero_le _ | exact Nat.le_of_ble_eq_true rfl | omega)); (conv => whnf))
      | ((with_reducible refine @And.intro (@LT.lt Nat _ _ _) _ ?_ ?_); (· omega); (conv => whnf))
      | ((with_reducible refine @And.intro (∃ _, _ = _) _ ?_ ?_); (· exact ⟨_, rfl⟩); (conv => whnf))
      | ((with_reducible refine @And.intro (_ ∨ _) _ ?_ ?_); (· (first | exact Or.inl rfl | exact Or.inr rfl | exact t_b01 _ | assumption)); (conv => whnf))
      | ((with_reducible refine @And.intro (¬ (_ = _)) _ ?_ ?_); (· first | assumption | (with_reducible assumption)); (conv => whnf))
      | (refine hX _ _ _ _ _ _ ?_; (conv => whnf); fail_if_success show False)
      | (rw [t_si]; (conv => whnf))
      | (refine ⟨_, rfl, ?_⟩; (conv => whnf))
      | (refine ⟨_, _, rfl, ?_⟩; (conv => whnf))
      | (refine ⟨_, _, _, rfl, ?_⟩; (conv => whnf))
      | (refine ⟨_, _, _, _, rfl, ?_⟩; (conv => whnf))
      | (rw [e1]; (conv => whnf))
      | (refine And.intro (fun c => ?_) (fun c => ?_) <;> (first | (exact absurd c (by decide +kernel)) | (conv => whnf)))
      | fail)
    exact t_ref' hQ hg h01 (by simp [f1]) (by decide) rfl rfl
theorem ct_X11_limps {Iv : xI} (hI : xm_good Iv) : xm_Ct Iv yX11_limps (ws_ yX11_limps cX11_limps 5 (some .int)) 8 0 0 S_X11_limps := xm_enter (rt := 0) (init := false) (by decide +kernel) rfl (fun h => by cases h) (Or.inl ⟨rfl, rfl⟩) (oX11_limps hI) body_X11_limps
theorem cv_X11_limps {Iv : xI} {own : String} {cc : ByteArray} {fr pc idx : Nat} (hI : xm_good Iv) (hdg : decode cc pc = .ok (.invokevirtual idx, 3)) (hl : xm_ml own idx yX11_limps) (hfr : 8 < fr) : xm_CallOK Iv own cc fr pc (pc + 3) 2 0 0 (xm_this 8 S_X11_limps) := xm_callV 8 hI (ct_X11_limps hI) hdg hl q2525 q2526 q145 q2527 rfl rfl (by decide +kernel) hfr (by decide)
