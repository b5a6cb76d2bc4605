/-! ===== the reference: years, undo ===== -/
set_option maxRecDepth 100000
def g_yr (K : gK) (s : gT × Int32) : gT × Int32 := if nI 200 ≤ gy s.1 then s else (g_goes K s.1, s.2 + nI 1)
def g_yrs (K : gK) (n : Nat) (s : gT × Int32) : gT × Int32 := t_fold n (fun _ s => g_yr K s) s
theorem g_yrs_s {K : gK} {n : Nat} {s : gT × Int32} : g_yrs K (n + 1) s = g_yr K (g_yrs K n s) := rfl
theorem g_yrs_stuck {K : gK} {n k : Nat} {s : gT × Int32} (h : nI 200 ≤ gy (g_yrs K k s).1) (hk : k ≤ n) : g_yrs K n s = g_yrs K k s := by
  induction n with
  | zero =>
    have : k = 0 := by omega
    rw [this]
  | succ n ih =>
    by_cases e : k = n + 1
    · rw [e]
    · rw [g_yrs_s, ih (by omega), g_yr, if_pos h]
def q_years (G : gG) (a : Int32) : gR := g_ck G (t_in a (nI 1) (nI 60)) (nI 1) 1 (nI 0, gy (g_yrs (gGK G) a.toNatClampNeg (gnow G, ggone G)).1, g_now G (g_yrs (gGK G) a.toNatClampNeg (gnow G, ggone G)).1 (g_yrs (gGK G) a.toNatClampNeg (gnow G, ggone G)).2)
abbrev bX11_years_0 : List xE := [(.aload_n 0, 1, 0, 0, 0), (.iconst 0, 2, 0, 0, 0), (.putfield 134, 5, 8, 0, 0), (.aload_n 0, 6, 0, 0, 0), (.iload_n 1, 7, 0, 0, 0), (.iconst 1, 8, 0, 0, 0), (.bipush 60, 10, 0, 0, 0), (.invokestatic 168, 13, 0, 0, 9), (.ifCond .ne 7, 16, 0, 20, 0), (.iconst 1, 17, 0, 0, 0), (.goto 4, 20, 0, 21, 0)]
abbrev bX11_years_20 : List xE := [(.iconst 0, 21, 0, 0, 0)]
abbrev bX11_years_21 : List xE := [(.iconst 1, 22, 0, 0, 0), (.iconst 1, 23, 0, 0, 0), (.invokevirtual 249, 26, 0, 1, 9), (.ifCond .eq 5, 29, 0, 31, 0), (.iconst 0, 30, 0, 0, 0), (.ireturn, 31, 0, 0, 0)]
abbrev bX11_years_31 : List xE := [(.iconst 0, 32, 0, 0, 0), (.istore_n 2, 33, 0, 0, 0)]
abbrev bX11_years_33 : List xE := [(.iload_n 2, 34, 0, 0, 0), (.iload_n 1, 35, 0, 0, 0), (.if_icmp .ge 40, 38, 0, 75, 0), (.aload_n 0, 39, 0, 0, 0), (.getfield 91, 42, 8, 36, 1), (.bipush 106, 44, 0, 0, 0), (.iaload, 45, 0, 0, 0), (.sipush 200, 48, 0, 0, 0), (.if_icmp .ge 27, 51, 0, 75, 0), (.aload_n 0, 52, 0, 0, 0), (.aload_n 0, 53, 0, 0, 0), (.getfield 91, 56, 8, 36, 1), (.invokevirtual 385, 59, 0, 2, 9), (.aload_n 0, 60, 0, 0, 0), (.dup, 61, 0, 0, 0), (.getfield 282, 64, 8, 42, 0), (.iconst 1, 65, 0, 0, 0), (.iadd, 66, 0, 0, 0), (.putfield 282, 69, 8, 42, 0), (.iinc 2 1, 72, 0, 0, 0), (.goto (-39), 75, 0, 33, 0)]
abbrev bX11_years_75 : List xE := [(.aload_n 0, 76, 0, 0, 0), (.getfield 91, 79, 8, 36, 1), (.bipush 106, 81, 0, 0, 0), (.iaload, 82, 0, 0, 0), (.ireturn, 83, 0, 0, 0)]
abbrev kX11_years : List (Nat × List xE) := [(0, bX11_years_0), (20, bX11_years_20), (21, bX11_years_21), (31, bX11_years_31), (33, bX11_years_33), (75, bX11_years_75)]
abbrev lX11_years : List (Nat × Nat × Nat × xS) := [(3, 0, 0, S_X11_in), (4, 0, 0, xm_this 8 S_X11_bad), (2, 0, 0, xm_this 8 S_X11_goes)]
theorem oX11_years_0 {Iv : xI} (hI : xm_good Iv)  : xm_okb Iv RX11 cX11_years false 7 lX11_years bX11_years_0 0 := xo_0 dX11_years_0 rfl trivial (xo_0 dX11_years_1 rfl trivial (xo_0 dX11_years_2 rfl (xm_fp_of (xm_fg_of (Or.inl q1955) (by decide) rfl (by decide) rfl rfl (Or.inl rfl) rfl) (by decide) rfl (Or.inl ⟨rfl, rfl⟩) rfl) (xo_0 dX11_years_5 rfl trivial (xo_0 dX11_years_6 rfl trivial (xo_0 dX11_years_7 rfl trivial (xo_0 dX11_years_8 rfl (xo_bipush (by decide +kernel)) (xo_c rfl (cv_X11_in hI dX11_years_10 (Or.inl q1942) (by decide)) (xo_0 dX11_years_13 rfl rfl (xo_0 dX11_years_16 rfl trivial (xo_0 dX11_years_17 rfl rfl (xo_n)))))))))))
theorem oX11_years_20 {Iv : xI} (hI : xm_good Iv)  : xm_okb Iv RX11 cX11_years false 7 lX11_years bX11_years_20 20 := xo_0 dX11_years_20 rfl trivial (xo_n)
theorem oX11_years_21 {Iv : xI} (hI : xm_good Iv)  : xm_okb Iv RX11 cX11_years false 7 lX11_years bX11_years_21 21 := xo_0 dX11_years_21 rfl trivial (xo_0 dX11_years_22 rfl trivial (xo_c rfl (cv_X11_bad hI dX11_years_23 (Or.inl q2137) (by decide)) (xo_0 dX11_years_26 rfl rfl (xo_0 dX11_years_29 rfl trivial (xo_0 dX11_years_30 rfl trivial (xo_n))))))
theorem oX11_years_31 {Iv : xI} (hI : xm_good Iv)  : xm_okb Iv RX11 cX11_years false 7 lX11_years bX11_years_31 31 := xo_0 dX11_years_31 rfl trivial (xo_0 dX11_years_32 rfl trivial (xo_n))
theorem oX11_years_33 {Iv : xI} (hI : xm_good Iv)  : xm_okb Iv RX11 cX11_years false 7 lX11_years bX11_years_33 33 := xo_0 dX11_years_33 rfl trivial (xo_0 dX11_years_34 rfl trivial (xo_0 dX11_years_35 rfl rfl (xo_0 dX11_years_38 rfl trivial (xo_1 dX11_years_39 rfl (xm_fg_of (Or.inl q1991) (by decide) rfl (by decide) rfl rfl (Or.inl rfl) rfl) (xo_0 dX11_years_42 rfl (xo_bipush (by decide +kernel)) (xo_0 dX11_years_44 rfl trivial (xo_0 dX11_years_45 rfl (xo_sipush (by decide +kernel)) (xo_0 dX11_years_48 rfl rfl (xo_0 dX11_years_51 rfl trivial (xo_0 dX11_years_52 rfl trivial (xo_1 dX11_years_53 rfl (xm_fg_of (Or.inl q1991) (by decide) rfl (by decide) rfl rfl (Or.inl rfl) rfl) (xo_c rfl (cv_X11_goes hI dX11_years_56 (Or.inl q2378) (by decide)) (xo_0 dX11_years_59 rfl trivial (xo_0 dX11_years_60 rfl trivial (xo_0 dX11_years_61 rfl (xm_fg_of (Or.inl q1997) (by decide) rfl (by decide) rfl rfl (Or.inl rfl) rfl) (xo_0 dX11_years_64 rfl trivial (xo_0 dX11_years_65 rfl trivial (xo_0 dX11_years_66 rfl (xm_fp_of (xm_fg_of (Or.inl q1997) (by decide) rfl (by decide) rfl rfl (Or.inl rfl) rfl) (by decide) rfl (Or.inl ⟨rfl, rfl⟩) rfl) (xo_0 dX11_years_69 rfl trivial (xo_0 dX11_years_72 rfl rfl (xo_n)))))))))))))))))))))
theorem oX11_years_75 {Iv : xI} (hI : xm_good Iv)  : xm_okb Iv RX11 cX11_years false 7 lX11_years bX11_years_75 75 := xo_0 dX11_years_75 rfl trivial (xo_1 dX11_years_76 rfl (xm_fg_of (Or.inl q1991) (by decide) rfl (by decide) rfl rfl (Or.inl rfl) rfl) (xo_0 dX11_years_79 rfl (xo_bipush (by decide +kernel)) (xo_0 dX11_years_81 rfl trivial (xo_0 dX11_years_82 rfl trivial (xo_n)))))
theorem oX11_years {Iv : xI} (hI : xm_good Iv)  : ∀ q ∈ kX11_years, xm_okb Iv RX11 cX11_years false 7 lX11_years q.2 q.1 := by
  intro q hq
  simp only [List.mem_cons, List.not_mem_nil, or_false] at hq
  rcases hq with rfl | rfl | rfl | rfl | rfl | rfl
  · exact oX11_years_0 hI  
  · exact oX11_years_20 hI  
  · exact oX11_years_21 hI  
  · exact oX11_years_31 hI  
  · exact oX11_years_33 hI  
  · exact oX11_years_75 hI  
def S_X11_years : xS := tU fun as I Q => ∃ a, as = [.ref 0, .int a] ∧ t_good I ∧ t_P Q (q_years (tG I) a)
theorem body_X11_years : xm_Body 3 0 0 0 [] lX11_years kX11_years S_X11_years := by
  intro X avs w Q QX hX0 hS
  have hG := xm_go [] hX0
  have hX := xm_go [33] hX0
  clear hX0
  obtain ⟨I, rfl, a, rfl, hg, hQ⟩ := hS
  refine ⟨rfl, ?_⟩
  repeat' (first
    | ((with_reducible refine @And.intro (vp_in _ _) _ ?_ ?_); (· (first | with_reducible assumption | ((with_reducible refine t_vin ?_); decide) | ((with_reducible refine vp_in_nI ?_ ?_) <;> first | omega | decide) | (simp (disch := omega) only [xl_n, xl_m, nI_dec, nI_sb, nI_add, pk_mul]; (with_reducible refine vp_in_nI ?_ ?_) <;> first | omega | decide))); (conv => whnf))
    | (refine And.intro (by first | with_reducible assumption | exact (show tL _ = _ from rfl) | decide) ?_; (conv => whnf))
    | ((with_reducible refine @And.intro (_ = _) _ ?_ ?_); (· rfl); (conv => whnf))
    | ((with_reducible refine @And.intro (@LE.le Nat _ _ _) _ ?_ ?_); (· (first | exact Nat.zero_le _ | exact Nat.le_of_ble_eq_true rfl | omega)); (conv => whnf))
    | ((with_reducible refine @And.intro (@LT.lt Nat _ _ _) _ ?_ ?_); (· omega); (conv => whnf))
    | ((with_reducible refine @And.intro (∃ _, _ = _) _ ?_ ?_); (· exact ⟨_, rfl⟩); (conv => whnf))
    | ((with_reducible refine @And.intro (_ ∨ _) _ ?_ ?_); (· (first | exact Or.inl rfl | exact Or.inr rfl | exact t_b01 _ | assumption)); (conv => whnf))
    | ((with_reducible refine @And.intro (¬ (_ = _)) _ ?_ ?_); (· first | assumption | (with_reducible assumption)); (conv => whnf))
    | (refine hX _ _ _ _ _ _ ?_; (conv => whnf); fail_if_success show False)
    | fail)
  rw [t_si]
  obtain ⟨J, hJ, hg1, hG1, h01⟩ := t_pub hg
  rw [← hJ]
  rw [← hG1] at hQ
  clear hJ hG1 hg I
  have hg := hg1
  have hok := hg.1
  have hl := hg.2.1
  have h8 := hok.2.2.2.1
  have h9 := hok.2.1
  (conv => whnf)
  rcases t_rc a 1 60 (L := Int32.ofInt 1) (H := Int32.ofInt 60) (by decide +kernel) (by decide +kernel) (by omega) (by omega) with ⟨n, -, hn, rfl, e1, f1⟩ | ⟨e1, f1⟩
  · rw [q_years, f1, g_ck_t, nI_clamp (by omega)] at hQ
    have loop : ∀ k, k ≤ n → ∀ M, t_sm J M → M 0 0 = nI 0 → tA M 37 = tA J 37 → (tA M 36, M 0 42) = g_yrs (tK J) k (tA J 36, J 0 42) → X 33 [some (.ref 0), some (.int (nI n)), some (.int (nI k))] [] (tW M) 0 0 := by
      refine t_for fun k h1 ih M hM h0 hB hA => ?_
      have hgM := hM.good hg
      have hokM := hgM.1
      have hlM := hgM.2.1
      have eK : tK M = tK J := hM.same.K hg
      have fin : g_yrs (tK J) n (tA J 36, J 0 42) = g_yrs (tK J) k (tA J 36, J 0 42) → Q (some (.int (M 36 106))) (tW M) := fun e => by
        have e2 : g_yrs (gGK (tG J)) n (gnow (tG J), ggone (tG J)) = (tA M 36, M 0 42) := e.trans hA.symm
        rw [e2] at hQ
        exact hQ M hgM (hM.now hg hB) h0
      refine hG _ _ _ _ _ _ ?_
      (conv => whnf)
      repeat' (first
        | ((with_reducible refine @And.intro (vp_in _ _) _ ?_ ?_); (· (first | with_reducible assumption | ((with_reducible refine t_vin ?_); decide) | ((with_reducible refine vp_in_nI ?_ ?_) <;> first | omega | decide) | (simp (disch := omega) only [xl_n, xl_m, nI_dec, nI_sb, nI_add, pk_mul]; (with_reducible refine vp_in_nI ?_ ?_) <;> first | omega | decide))); (conv => whnf))
        | (refine And.intro (by first | with_reducible assumption | exact (show tL _ = _ from rfl) | decide) ?_; (conv => whnf))
        | ((with_reducible refine @And.intro (_ = _) _ ?_ ?_); (· rfl); (conv => whnf))
        | ((with_reducible refine @And.intro (@LE.le Nat _ _ _) _ ?_ ?_); (· (first | exact Nat.zero_le _ | exact Nat.le_of_ble_eq_true rfl | omega)); (conv => whnf))
        | ((with_reducible refine @And.intro (@LT.lt Nat _ _ _) _ ?_ ?_); (· omega); (conv => whnf))
        | ((with_reducible refine @And.intro (∃ _, _ = _) _ ?_ ?_); (· exact ⟨_, rfl⟩); (conv => whnf))
        | ((with_reducible refine @And.intro (_ ∨ _) _ ?_ ?_); (· (first | exact Or.inl rfl | exact Or.inr rfl | exact t_b01 _ | assumption)); (conv => whnf))
        | ((with_reducible refine @And.intro (¬ (_ = _)) _ ?_ ?_); (· first | assumption | (with_reducible assumption)); (conv => whnf))
        | (refine hX _ _ _ _ _ _ ?_; (conv => whnf); fail_if_success show False)
        | (rw [t_si]; (conv => whnf))
        | (refine ⟨_, rfl, ?_⟩; (conv => whnf))
        | (refine ⟨_, _, rfl, ?_⟩; (conv => whnf))
        | (refine ⟨_, _, _, rfl, ?_⟩; (conv => whnf))
        | (refine ⟨_, _, _, _, rfl, ?_⟩; (conv => whnf))
        | fail)
      refine And.intro (fun c => ?_) (fun c => ?_) <;> (conv => whnf)
      · repeat' (first
          | ((with_reducible refine @And.intro (vp_in _ _) _ ?_ ?_); (· (first | with_reducible assumption | ((with_reducible refine t_vin ?_); decide) | ((with_reducible refine vp_in_nI ?_ ?_) <;> first | omega | decide) | (simp (disch := omega) only [xl_n, xl_m, nI_dec, nI_sb, nI_add, pk_mul]; (with_reducible refine vp_in_nI ?_ ?_) <;> first | omega | decide))); (conv => whnf))
          | (refine And.intro (by first | with_reducible assumption | exact (show tL _ = _ from rfl) | decide) ?_; (conv => whnf))
          | ((with_reducible refine @And.intro (_ = _) _ ?_ ?_); (· rfl); (conv => whnf))
          | ((with_reducible refine @And.intro (@LE.le Nat _ _ _) _ ?_ ?_); (· (first | exact Nat.zero_le _ | exact Nat.le_of_ble_eq_true rfl | omega)); (conv => whnf))
          | ((with_reducible refine @And.intro (@LT.lt Nat _ _ _) _ ?_ ?_); (· omega); (conv => whnf))
          | ((with_reducible refine @And.intro (∃ _, _ = _) _ ?_ ?_); (· exact ⟨_, rfl⟩); (conv => whnf))
          | ((with_reducible refine @And.intro (_ ∨ _) _ ?_ ?_); (· (first | exact Or.inl rfl | exact Or.inr rfl | exact t_b01 _ | assumption)); (conv => whnf))
          | ((with_reducible refine @And.intro (¬ (_ = _)) _ ?_ ?_); (· first | assumption | (with_reducible assumption)); (conv => whnf))
          | (refine hX _ _ _ _ _ _ ?_; (conv => whnf); fail_if_success show False)
          | (rw [t_si]; (conv => whnf))
          | (refine ⟨_, rfl, ?_⟩; (conv => whnf))
          | (refine ⟨_, _, rfl, ?_⟩; (conv => whnf))
          | (refine ⟨_, _, _, rfl, ?_⟩; (conv => whnf))
          | (refine ⟨_, _, _, _, rfl, ?_⟩; (conv => whnf))
          | fail)
        have : k = n := Nat.le_antisymm h1 (t_kge rfl c (by omega) (by omega))
        subst this
        exact fin rfl
      · have hk : k < n := t_klt rfl c (by omega)
        repeat' (first
          | ((with_reducible refine @And.intro (vp_in _ _) _ ?_ ?_); (· (first | with_reducible assumption | ((with_reducible refine t_vin ?_); decide) | ((with_reducible refine vp_in_nI ?_ ?_) <;> first | omega | decide) | (simp (disch := omega) only [xl_n, xl_m, nI_dec, nI_sb, nI_add, pk_mul]; (with_reducible refine vp_in_nI ?_ ?_) <;> first | omega | decide))); (conv => whnf))
          | (refine And.intro (by first | with_reducible assumption | exact (show tL _ = _ from rfl) | decide) ?_; (conv => whnf))
          | ((with_reducible refine @And.intro (_ = _) _ ?_ ?_); (· rfl); (conv => whnf))
          | ((with_reducible refine @And.intro (@LE.le Nat _ _ _) _ ?_ ?_); (· (first | exact Nat.zero_le _ | exact Nat.le_of_ble_eq_true rfl | omega)); (conv => whnf))
          | ((with_reducible refine @And.intro (@LT.lt Nat _ _ _) _ ?_ ?_); (· omega); (conv => whnf))
          | ((with_reducible refine @And.intro (∃ _, _ = _) _ ?_ ?_); (· exact ⟨_, rfl⟩); (conv => whnf))
          | ((with_reducible refine @And.intro (_ ∨ _) _ ?_ ?_); (· (first | exact Or.inl rfl | exact Or.inr rfl | exact t_b01 _ | assumption)); (conv => whnf))
          | ((with_reducible refine @And.intro (¬ (_ = _)) _ ?_ ?_); (· first | assumption | (with_reducible assumption)); (conv => whnf))
          | (refine hX _ _ _ _ _ _ ?_; (conv => whnf); fail_if_success show False)
          | (rw [t_si]; (conv => whnf))
          | (refine ⟨_, rfl, ?_⟩; (conv => whnf))
          | (refine ⟨_, _, rfl, ?_⟩; (conv => whnf))
          | (refine ⟨_, _, _, rfl, ?_⟩; (conv => whnf))
          | (refine ⟨_, _, _, _, rfl, ?_⟩; (conv => whnf))
          | fail)
        refine And.intro (fun c2 => ?_) (fun c2 => ?_) <;> (conv => whnf)
        · repeat' (first
            | ((with_reducible refine @And.intro (vp_in _ _) _ ?_ ?_); (· (first | with_reducible assumption | ((with_reducible refine t_vin ?_); decide) | ((with_reducible refine vp_in_nI ?_ ?_) <;> first | omega | decide) | (simp (disch := omega) only [xl_n, xl_m, nI_dec, nI_sb, nI_add, pk_mul]; (with_reducible refine vp_in_nI ?_ ?_) <;> first | omega | decide))); (conv => whnf))
            | (refine And.intro (by first | with_reducible assumption | exact (show tL _ = _ from rfl) | decide) ?_; (conv => whnf))
            | ((with_reducible refine @And.intro (_ = _) _ ?_ ?_); (· rfl); (conv => whnf))
            | ((with_reducible refine @And.intro (@LE.le Nat _ _ _) _ ?_ ?_); (· (first | exact Nat.zero_le _ | exact Nat.le_of_ble_eq_true rfl | omega)); (conv => whnf))
            | ((with_reducible refine @And.intro (@LT.lt Nat _ _ _) _ ?_ ?_); (· omega); (conv => whnf))
            | ((with_reducible refine @And.intro (∃ _, _ = _) _ ?_ ?_); (· exact ⟨_, rfl⟩); (conv => whnf))
            | ((with_reducible refine @And.intro (_ ∨ _) _ ?_ ?_); (· (first | exact Or.inl rfl | exact Or.inr rfl | exact t_b01 _ | assumption)); (conv => whnf))
            | ((with_reducible refine @And.intro (¬ (_ = _)) _ ?_ ?_); (· first | assumption | (with_reducible assumption)); (conv => whnf))
            | (refine hX _ _ _ _ _ _ ?_; (conv => whnf); fail_if_success show False)
            | (rw [t_si]; (conv => whnf))
            | (refine ⟨_, rfl, ?_⟩; (conv => whnf))
            | (refine ⟨_, _, rfl, ?_⟩; (conv => whnf))
            | (refine ⟨_, _, _, rfl, ?_⟩; (conv => whnf))
            | (refine ⟨_, _, _, _, rfl, ?_⟩; (conv => whnf))
            | fail)
          have c3 : nI 200 ≤ gy (tA M 36) := c2
          refine fin (g_yrs_stuck ?_ h1)
          rw [← hA]
          exact c3
        · have c3 : ¬ nI 200 ≤ gy (tA M 36) := c2
          repeat' (first
            | ((with_reducible refine @And.intro (vp_in _ _) _ ?_ ?_); (· (first | with_reducible assumption | ((with_reducible refine t_vin ?_); decide) | ((with_reducible refine vp_in_nI ?_ ?_) <;> first | omega | decide) | (simp (disch := omega) only [xl_n, xl_m, nI_dec, nI_sb, nI_add, pk_mul]; (with_reducible refine vp_in_nI ?_ ?_) <;> first | omega | decide))); (conv => whnf))
            | (refine And.intro (by first | with_reducible assumption | exact (show tL _ = _ from rfl) | decide) ?_; (conv => whnf))
            | ((with_reducible refine @And.intro (_ = _) _ ?_ ?_); (· rfl); (conv => whnf))
            | ((with_reducible refine @And.intro (@LE.le Nat _ _ _) _ ?_ ?_); (· (first | exact Nat.zero_le _ | exact Nat.le_of_ble_eq_true rfl | omega)); (conv => whnf))
            | ((with_reducible refine @And.intro (@LT.lt Nat _ _ _) _ ?_ ?_); (· omega); (conv => whnf))
            | ((with_reducible refine @And.intro (∃ _, _ = _) _ ?_ ?_); (· exact ⟨_, rfl⟩); (conv => whnf))
            | ((with_reducible refine @And.intro (_ ∨ _) _ ?_ ?_); (· (first | exact Or.inl rfl | exact Or.inr rfl | exact t_b01 _ | assumption)); (conv => whnf))
            | ((with_reducible refine @And.intro (¬ (_ = _)) _ ?_ ?_); (· first | assumption | (with_reducible assumption)); (conv => whnf))
            | (refine hX _ _ _ _ _ _ ?_; (conv => whnf); fail_if_success show False)
            | (rw [t_si]; (conv => whnf))
            | (refine ⟨_, rfl, ?_⟩; (conv => whnf))
            | (refine ⟨_, _, rfl, ?_⟩; (conv => whnf))
            | (refine ⟨_, _, _, rfl, ?_⟩; (conv => whnf))
            | (refine ⟨_, _, _, _, rfl, ?_⟩; (conv => whnf))
            | (refine And.intro (fun c => ?_) (fun c => ?_) <;> (first | (exact absurd c (by decide +kernel)) | (conv => whnf)))
            | fail)
          intro L hL hE
          (conv => whnf)
          have eL := t_go hgM.2.2.1 hE
          have hL0 : ∀ k, k ≠ 44 → ¬ t_scf k → L 0 k = M 0 k := fun k a b => hL.2 k b a
          have := ih (k + 1) (by omega) (by omega) (xm_u2 L 0 42 (L 0 42 + nI 1)) (hM.tr ((hL.sm (Or.inl rfl)).tr t_sm.g)) (by
            rw [xm_u2_at, if_neg (by decide), hL0 0 (by decide) (by unfold t_scf; omega)]
            exact h0) (by
            rw [tA_u (by decide), hL.A (q := 37) (show tL 37 = _ from rfl) (by decide)]
            exact hB) (by
            rw [tA_u (by decide), xm_u2_at, if_pos rfl, eL, eK, hL0 42 (by decide) (by unfold t_scf; omega), g_yrs_s, ← hA, g_yr, if_neg c3])
          clear ih
          repeat' (first
            | ((with_reducible refine @And.intro (vp_in _ _) _ ?_ ?_); (· (first | with_reducible assumption | ((with_reducible refine t_vin ?_); decide) | ((with_reducible refine vp_in_nI ?_ ?_) <;> first | omega | decide) | (simp (disch := omega) only [xl_n, xl_m, nI_dec, nI_sb, nI_add, pk_mul]; (with_reducible refine vp_in_nI ?_ ?_) <;> first | omega | decide))); (conv => whnf))
            | (refine And.intro (by first | with_reducible assumption | exact (show tL _ = _ from rfl) | decide) ?_; (conv => whnf))
            | ((with_reducible refine @And.intro (_ = _) _ ?_ ?_); (· rfl); (conv => whnf))
            | ((with_reducible refine @And.intro (@LE.le Nat _ _ _) _ ?_ ?_); (· (first | exact Nat.zero_le _ | exact Nat.le_of_ble_eq_true rfl | omega)); (conv => whnf))
            | ((with_reducible refine @And.intro (@LT.lt Nat _ _ _) _ ?_ ?_); (· omega); (conv => whnf))
            | ((with_reducible refine @And.intro (∃ _, _ = _) _ ?_ ?_); (· exact ⟨_, rfl⟩); (conv => whnf))
            | ((with_reducible refine @And.intro (_ ∨ _) _ ?_ ?_); (· (first | exact Or.inl rfl | exact Or.inr rfl | exact t_b01 _ | assumption)); (conv => whnf))
            | ((with_reducible refine @And.intro (¬ (_ = _)) _ ?_ ?_); (· first | assumption | (with_reducible assumption)); (conv => whnf))
            | (refine hX _ _ _ _ _ _ ?_; (conv => whnf); fail_if_success show False)
            | (rw [t_si]; (conv => whnf))
            | (refine ⟨_, rfl, ?_⟩; (conv => whnf))
            | (refine ⟨_, _, rfl, ?_⟩; (conv => whnf))
            | (refine ⟨_, _, _, rfl, ?_⟩; (conv => whnf))
            | (refine ⟨_, _, _, _, rfl, ?_⟩; (conv => whnf))
            | (refine And.intro (fun c => ?_) (fun c => ?_) <;> (first | (exact absurd c (by decide +kernel)) | (conv => whnf)))
            | fail)
          clear hX hG hQ fin
          simp (disch := omega) only [xl_n, xl_m, nI_dec, nI_sb, xl_0, xl_1, tW_i, t_bn0, t_bn1, Classical.not_not, t_lt, nI_add, nI_1, pk_mul, nI_clamp, t_si, nI_eq, nI_leI, nM_ne, nM_ne, xm_set, xm_lv0, xm_psh] at *
          exact this
    repeat' (first
      | ((with_reducible refine @And.intro (vp_in _ _) _ ?_ ?_); (· (first | with_reducible assumption | ((with_reducible refine t_vin ?_); decide) | ((with_reducible refine vp_in_nI ?_ ?_) <;> first | omega | decide) | (simp (disch := omega) only [xl_n, xl_m, nI_dec, nI_sb, nI_add, pk_mul]; (with_reducible refine vp_in_nI ?_ ?_) <;> first | omega | decide))); (conv => whnf))
      | (refine And.intro (by first | with_reducible assumption | exact (show tL _ = _ from rfl) | decide) ?_; (conv => whnf))
      | ((with_reducible refine @And.intro (_ = _) _ ?_ ?_); (· rfl); (conv => whnf))
      | ((with_reducible refine @And.intro (@LE.le Nat _ _ _) _ ?_ ?_); (· (first | exact Nat.zero_le _ | exact Nat.le_of_ble_eq_true rfl | omega)); (conv => whnf))
      | ((with_reducible refine @And.intro (@LT.lt Nat _ _ _) _ ?_ ?_); (· omega); (conv => whnf))
      | ((with_reducible refine @And.intro (∃ _, _ = _) _ ?_ ?_); (· exact ⟨_, rfl⟩); (conv => whnf))
      | ((with_reducible refine @And.intro (_ ∨ _) _ ?_ ?_); (· (first | exact Or.inl rfl | exact Or.inr rfl | exact t_b01 _ | assumption)); (conv => whnf))
      | ((with_reducible refine @And.intro (¬ (_ = _)) _ ?_ ?_); (· first | assumption | (with_reducible assumption)); (conv => whnf))
      | (refine hX _ _ _ _ _ _ ?_; (conv => whnf); fail_if_success show False)
      | (rw [t_si]; (conv => whnf))
      | (refine ⟨_, rfl, ?_⟩; (conv => whnf))
      | (refine ⟨_, _, rfl, ?_⟩; (conv => whnf))
      | (refine ⟨_, _, _, rfl, ?_⟩; (conv => whnf))
      | (refine ⟨_, _, _, _, rfl, ?_⟩; (conv => whnf))
      | (rw [e1]; (conv => whnf))
      | (refine And.intro (fun c => ?_) (fun c => ?_) <;> (first | (exact absurd c (by decide +kernel)) | (conv => whnf)))
      | fail)
    exact loop 0 (Nat.zero_le _) J t_sm.rf h01 rfl rfl
  · repeat' (first
      | ((with_reducible refine @And.intro (vp_in _ _) _ ?_ ?_); (· (first | with_reducible assumption | ((with_reducible refine t_vin ?_); decide) | ((with_reducible refine vp_in_nI ?_ ?_) <;> first | omega | decide) | (simp (disch := omega) only [xl_n, xl_m, nI_dec, nI_sb, nI_add, pk_mul]; (with_reducible refine vp_in_nI ?_ ?_) <;> first | omega | decide))); (conv => whnf))
      | (refine And.intro (by first | with_reducible assumption | exact (show tL _ = _ from rfl) | decide) ?_; (conv => whnf))
      | ((with_reducible refine @And.intro (_ = _) _ ?_ ?_); (· rfl); (conv => whnf))
      | ((with_reducible refine @And.intro (@LE.le Nat _ _ _) _ ?_ ?_); (· (first | exact Nat.zero_le _ | exact Nat.le_of_ble_eq_true rfl | omega)); (conv => whnf))
      | ((with_reducible refine @And.intro (@LT.lt Nat _ _ _) _ ?_ ?_); (· omega); (conv => whnf))
      | ((with_reducible refine @And.intro (∃ _, _ = _) _ ?_ ?_); (· exact ⟨_, rfl⟩); (conv => whnf))
      | ((with_reducible refine @And.intro (_ ∨ _) _ ?_ ?_); (· (first | exact Or.inl rfl | exact Or.inr rfl | exact t_b01 _ | assumption)); (conv => whnf))
      | ((with_reducible refine @And.intro (¬ (_ = _)) _ ?_ ?_); (· first | assumption | (with_reducible assumption)); (conv => whnf))
      | (refine hX _ _ _ _ _ _ ?_; (conv => whnf); fail_if_success show False)
      | (rw [t_si]; (conv => whnf))
      | (refine ⟨_, rfl, ?_⟩; (conv => whnf))
      | (refine ⟨_, _, rfl, ?_⟩; (conv => whnf))
      | (refine ⟨_, _, _, rfl, ?_⟩; (conv => whnf))
      | (refine ⟨_, _, _, _, rfl, ?_⟩; (conv => whnf))
      | (rw [e1]; (conv => whnf))
      | (refine And.intro (fun c => ?_) (fun c => ?_) <;> (first | (exact absurd c (by decide +kernel)) | (conv => whnf)))
      | fail)
    exact t_ref' hQ hg h01 (by simp [f1]) (by decide) rfl rfl
theorem ct_X11_years {Iv : xI} (hI : xm_good Iv) : xm_Ct Iv yX11_years (ws_ yX11_years cX11_years 3 (some .int)) 7 0 0 S_X11_years := xm_enter (rt := 0) (init := false) (by decide +kernel) rfl (fun h => by cases h) (Or.inl ⟨rfl, rfl⟩) (oX11_years hI) body_X11_years
theorem cv_X11_years {Iv : xI} {own : String} {cc : ByteArray} {fr pc idx : Nat} (hI : xm_good Iv) (hdg : decode cc pc = .ok (.invokevirtual idx, 3)) (hl : xm_ml own idx yX11_years) (hfr : 7 < fr) : xm_CallOK Iv own cc fr pc (pc + 3) 2 0 0 (xm_this 8 S_X11_years) := xm_callV 8 hI (ct_X11_years hI) hdg hl q2375 q2376 q145 q2377 rfl rfl (by decide +kernel) hfr (by decide)
/-- gone are as many years as lie between base and now -/
def g_yok (G : gG) : Prop := ∃ y g, y ≤ 200 ∧ g ≤ y ∧ gy (gnow G) = nI y ∧ ggone G = nI g ∧ gy (gbase G) = nI (y - g)
theorem nI_sub {a b : Nat} (h : b ≤ a) : nI a - nI b = nI (a - b) := by
  have : nI (a - b) + nI b = nI a := by rw [nI_add]; congr 1; omega
  rw [← this, Int32.add_sub_cancel]
def q_undo (G : gG) (a : Int32) : gR := g_ck G (t_in a (nI 1) (nI 60)) (nI 1) 1 (if t_less a (ggone G) = nI 0 then g_says G (nI 0) else (nI 0, t_less a (ggone G), g_now G (g_gos (gGK G) (ggone G - t_less a (ggone G)).toNatClampNeg (gbase G)) (ggone G - t_less a (ggone G))))
abbrev bX11_undo_0 : List xE := [(.aload_n 0, 1, 0, 0, 0), (.iconst 0, 2, 0, 0, 0), (.putfield 134, 5, 8, 0, 0), (.aload_n 0, 6, 0, 0, 0), (.iload_n 1, 7, 0, 0, 0), (.iconst 1, 8, 0, 0, 0), (.bipush 60, 10, 0, 0, 0), (.invokestatic 168, 13, 0, 0, 9), (.ifCond .ne 7, 16, 0, 20, 0), (.iconst 1, 17, 0, 0, 0), (.goto 4, 20, 0, 21, 0)]
abbrev bX11_undo_20 : List xE := [(.iconst 0, 21, 0, 0, 0)]
abbrev bX11_undo_21 : List xE := [(.iconst 1, 22, 0, 0, 0), (.iconst 1, 23, 0, 0, 0), (.invokevirtual 249, 26, 0, 1, 9), (.ifCond .eq 5, 29, 0, 31, 0), (.iconst 0, 30, 0, 0, 0), (.ireturn, 31, 0, 0, 0)]
abbrev bX11_undo_31 : List xE := [(.iload_n 1, 32, 0, 0, 0), (.aload_n 0, 33, 0, 0, 0), (.getfield 282, 36, 8, 42, 0), (.invokestatic 229, 39, 0, 2, 9), (.istore_n 2, 40, 0, 0, 0), (.iload_n 2, 41, 0, 0, 0), (.ifCond .ne 5, 44, 0, 46, 0), (.iconst 0, 45, 0, 0, 0), (.ireturn, 46, 0, 0, 0)]
abbrev bX11_undo_46 : List xE := [(.aload_n 0, 47, 0, 0, 0), (.dup, 48, 0, 0, 0), (.getfield 282, 51, 8, 42, 0), (.iload_n 2, 52, 0, 0, 0), (.isub, 53, 0, 0, 0), (.putfield 282, 56, 8, 42, 0), (.aload_n 0, 57, 0, 0, 0), (.getfield 94, 60, 8, 37, 1), (.aload_n 0, 61, 0, 0, 0), (.getfield 91, 64, 8, 36, 1), (.invokestatic 266, 67, 0, 3, 9), (.iconst 0, 68, 0, 0, 0), (.istore_n 3, 69, 0, 0, 0)]
abbrev bX11_undo_69 : List xE := [(.iload_n 3, 70, 0, 0, 0), (.aload_n 0, 71, 0, 0, 0), (.getfield 282, 74, 8, 42, 0), (.if_icmp .ge 17, 77, 0, 91, 0), (.aload_n 0, 78, 0, 0, 0), (.aload_n 0, 79, 0, 0, 0), (.getfield 91, 82, 8, 36, 1), (.invokevirtual 385, 85, 0, 4, 9), (.iinc 3 1, 88, 0, 0, 0), (.goto (-19), 91, 0, 69, 0)]
abbrev bX11_undo_91 : List xE := [(.iload_n 2, 92, 0, 0, 0), (.ireturn, 93, 0, 0, 0)]
abbrev kX11_undo : List (Nat × List xE) := [(0, bX11_undo_0), (20, bX11_undo_20), (21, bX11_undo_21), (31, bX11_undo_31), (46, bX11_undo_46), (69, bX11_undo_69), (91, bX11_undo_91)]
abbrev lX11_undo : List (Nat × Nat × Nat × xS) := [(3, 0, 0, S_X11_in), (4, 0, 0, xm_this 8 S_X11_bad), (2, 0, 0, S_X11_less), (2, 0, 0, S_X11_copies), (2, 0, 0, xm_this 8 S_X11_goes)]
theorem oX11_undo_0 {Iv : xI} (hI : xm_good Iv)  : xm_okb Iv RX11 cX11_undo false 7 lX11_undo bX11_undo_0 0 := xo_0 dX11_undo_0 rfl trivial (xo_0 dX11_undo_1 rfl trivial (xo_0 dX11_undo_2 rfl (xm_fp_of (xm_fg_of (Or.inl q1955) (by decide) rfl (by decide) rfl rfl (Or.inl rfl) rfl) (by decide) rfl (Or.inl ⟨rfl, rfl⟩) rfl) (xo_0 dX11_undo_5 rfl trivial (xo_0 dX11_undo_6 rfl trivial (xo_0 dX11_undo_7 rfl trivial (xo_0 dX11_undo_8 rfl (xo_bipush (by decide +kernel)) (xo_c rfl (cv_X11_in hI dX11_undo_10 (Or.inl q1942) (by decide)) (xo_0 dX11_undo_13 rfl rfl (xo_0 dX11_undo_16 rfl trivial (xo_0 dX11_undo_17 rfl rfl (xo_n)))))))))))
theorem oX11_undo_20 {Iv : xI} (hI : xm_good Iv)  : xm_okb Iv RX11 cX11_undo false 7 lX11_undo bX11_undo_20 20 := xo_0 dX11_undo_20 rfl trivial (xo_n)
theorem oX11_undo_21 {Iv : xI} (hI : xm_good Iv)  : xm_okb Iv RX11 cX11_undo false 7 lX11_undo bX11_undo_21 21 := xo_0 dX11_undo_21 rfl trivial (xo_0 dX11_undo_22 rfl trivial (xo_c rfl (cv_X11_bad hI dX11_undo_23 (Or.inl q2137) (by decide)) (xo_0 dX11_undo_26 rfl rfl (xo_0 dX11_undo_29 rfl trivial (xo_0 dX11_undo_30 rfl trivial (xo_n))))))
theorem oX11_undo_31 {Iv : xI} (hI : xm_good Iv)  : xm_okb Iv RX11 cX11_undo false 7 lX11_undo bX11_undo_31 31 := xo_0 dX11_undo_31 rfl trivial (xo_0 dX11_undo_32 rfl trivial (xo_0 dX11_undo_33 rfl (xm_fg_of (Or.inl q1997) (by decide) rfl (by decide) rfl rfl (Or.inl rfl) rfl) (xo_c rfl (cv_X11_less hI dX11_undo_36 (Or.inl q2229) (by decide)) (xo_0 dX11_undo_39 rfl trivial (xo_0 dX11_undo_40 rfl trivial (xo_0 dX11_undo_41 rfl rfl (xo_0 dX11_undo_44 rfl trivial (xo_0 dX11_undo_45 rfl trivial (xo_n)))))))))
theorem oX11_undo_46 {Iv : xI} (hI : xm_good Iv)  : xm_okb Iv RX11 cX11_undo false 7 lX11_undo bX11_undo_46 46 := xo_0 dX11_undo_46 rfl trivial (xo_0 dX11_undo_47 rfl trivial (xo_0 dX11_undo_48 rfl (xm_fg_of (Or.inl q1997) (by decide) rfl (by decide) rfl rfl (Or.inl rfl) rfl) (xo_0 dX11_undo_51 rfl trivial (xo_0 dX11_undo_52 rfl trivial (xo_0 dX11_undo_53 rfl (xm_fp_of (xm_fg_of (Or.inl q1997) (by decide) rfl (by decide) rfl rfl (Or.inl rfl) rfl) (by decide) rfl (Or.inl ⟨rfl, rfl⟩) rfl) (xo_0 dX11_undo_56 rfl trivial (xo_1 dX11_undo_57 rfl (xm_fg_of (Or.inl q1992) (by decide) rfl (by decide) rfl rfl (Or.inl rfl) rfl) (xo_0 dX11_undo_60 rfl trivial (xo_1 dX11_undo_61 rfl (xm_fg_of (Or.inl q1991) (by decide) rfl (by decide) rfl rfl (Or.inl rfl) rfl) (xo_c rfl (cv_X11_copies hI dX11_undo_64 (Or.inl q1948) (by decide)) (xo_0 dX11_undo_67 rfl trivial (xo_0 dX11_undo_68 rfl trivial (xo_n)))))))))))))
theorem oX11_undo_69 {Iv : xI} (hI : xm_good Iv)  : xm_okb Iv RX11 cX11_undo false 7 lX11_undo bX11_undo_69 69 := xo_0 dX11_undo_69 rfl trivial (xo_0 dX11_undo_70 rfl trivial (xo_0 dX11_undo_71 rfl (xm_fg_of (Or.inl q1997) (by decide) rfl (by decide) rfl rfl (Or.inl rfl) rfl) (xo_0 dX11_undo_74 rfl rfl (xo_0 dX11_undo_77 rfl trivial (xo_0 dX11_undo_78 rfl trivial (xo_1 dX11_undo_79 rfl (xm_fg_of (Or.inl q1991) (by decide) rfl (by decide) rfl rfl (Or.inl rfl) rfl) (xo_c rfl (cv_X11_goes hI dX11_undo_82 (Or.inl q2378) (by decide)) (xo_0 dX11_undo_85 rfl trivial (xo_0 dX11_undo_88 rfl rfl (xo_n))))))))))
theorem oX11_undo_91 {Iv : xI} (hI : xm_good Iv)  : xm_okb Iv RX11 cX11_undo false 7 lX11_undo bX11_undo_91 91 := xo_0 dX11_undo_91 rfl trivial (xo_0 dX11_undo_92 rfl trivial (xo_n))
theorem oX11_undo {Iv : xI} (hI : xm_good Iv)  : ∀ q ∈ kX11_undo, xm_okb Iv RX11 cX11_undo false 7 lX11_undo q.2 q.1 := by
  intro q hq
  simp only [List.mem_cons, List.not_mem_nil, or_false] at hq
  rcases hq with rfl | rfl | rfl | rfl | rfl | rfl | rfl
  · exact oX11_undo_0 hI  
  · exact oX11_undo_20 hI  
  · exact oX11_undo_21 hI  
  · exact oX11_undo_31 hI  
  · exact oX11_undo_46 hI  
  · exact oX11_undo_69 hI  
  · exact oX11_undo_91 hI  
def S_X11_undo : xS := tU fun as I Q => ∃ a, as = [.ref 0, .int a] ∧ t_good I ∧ g_yok (tG I) ∧ t_P Q (q_undo (tG I) a)
theorem body_X11_undo : xm_Body 4 0 0 0 [] lX11_undo kX11_undo S_X11_undo := by
  intro X avs w Q QX hX0 hS
  have hG := xm_go [] hX0
  have hX := xm_go [69] hX0
  clear hX0
  obtain ⟨I, rfl, a, rfl, hg, hy, hQ⟩ := hS
  refine ⟨rfl, ?_⟩
  repeat' (first
    | ((with_reducible refine @And.intro (vp_in _ _) _ ?_ ?_); (· (first | with_reducible assumption | ((with_reducible refine t_vin ?_); decide) | ((with_reducible refine vp_in_nI ?_ ?_) <;> first | omega | decide) | (simp (disch := omega) only [xl_n, xl_m, nI_dec, nI_sb, nI_add, pk_mul]; (with_reducible refine vp_in_nI ?_ ?_) <;> first | omega | decide))); (conv => whnf))
    | (refine And.intro (by first | with_reducible assumption | exact (show tL _ = _ from rfl) | decide) ?_; (conv => whnf))
    | ((with_reducible refine @And.intro (_ = _) _ ?_ ?_); (· rfl); (conv => whnf))
    | ((with_reducible refine @And.intro (@LE.le Nat _ _ _) _ ?_ ?_); (· (first | exact Nat.zero_le _ | exact Nat.le_of_ble_eq_true rfl | omega)); (conv => whnf))
    | ((with_reducible refine @And.intro (@LT.lt Nat _ _ _) _ ?_ ?_); (· omega); (conv => whnf))
    | ((with_reducible refine @And.intro (∃ _, _ = _) _ ?_ ?_); (· exact ⟨_, rfl⟩); (conv => whnf))
    | ((with_reducible refine @And.intro (_ ∨ _) _ ?_ ?_); (· (first | exact Or.inl rfl | exact Or.inr rfl | exact t_b01 _ | assumption)); (conv => whnf))
    | ((with_reducible refine @And.intro (¬ (_ = _)) _ ?_ ?_); (· first | assumption | (with_reducible assumption)); (conv => whnf))
    | (refine hX _ _ _ _ _ _ ?_; (conv => whnf); fail_if_success show False)
    | fail)
  rw [t_si]
  obtain ⟨J, hJ, hg1, hG1, h01⟩ := t_pub hg
  rw [← hJ]
  rw [← hG1] at hQ hy
  clear hJ hG1 hg I
  have hg := hg1
  have hok := hg.1
  have hl := hg.2.1
  have h8 := hok.2.2.2.1
  have h9 := hok.2.1
  (conv => whnf)
  obtain ⟨y, g, h200, hgy, ey, eg, eb⟩ := hy
  have e42 : J 0 42 = nI g := eg
  rcases t_rc a 1 60 (L := Int32.ofInt 1) (H := Int32.ofInt 60) (by decide +kernel) (by decide +kernel) (by omega) (by omega) with ⟨n, hn1, hn, rfl, e1, f1⟩ | ⟨e1, f1⟩
  · have el : t_less (nI n) (nI g) = nI (min n g) := by
      unfold t_less
      by_cases q : g ≤ n
      · rw [if_pos (nI_le q (by omega)), Nat.min_eq_right q]
      · rw [if_neg (nI_ge (by omega) (by omega)), Nat.min_eq_left (by omega)]
    have es : nI g - nI (min n g) = nI (g - min n g) := nI_sub (Nat.min_le_right _ _)
    have hmn : min n g ≤ g := Nat.min_le_right _ _
    rw [q_undo, f1, g_ck_t, eg, el, es, nI_clamp (by omega)] at hQ
    generalize min n g = d at hQ el es hmn
    have loop : ¬ nI d = nI 0 → ∀ k, k ≤ g - d → ∀ M, t_sm J M → M 0 0 = nI 0 → M 0 42 = nI (g - d) → tA M 37 = tA J 37 → tA M 36 = g_gos (tK J) k (tA J 37) → X 69 [some (.ref 0), some (.int (nI n)), some (.int (nI d)), some (.int (nI k))] [] (tW M) 0 0 := by
      intro hd
      rw [if_neg hd] at hQ
      refine t_for fun k h1 ih M hM h0 h42 hB hA => ?_
      have hgM := hM.good hg
      have hokM := hgM.1
      have hlM := hgM.2.1
      have eK : tK M = tK J := hM.same.K hg
      refine hG _ _ _ _ _ _ ?_
      (conv => whnf)
      repeat' (first
        | ((with_reducible refine @And.intro (vp_in _ _) _ ?_ ?_); (· (first | with_reducible assumption | ((with_reducible refine t_vin ?_); decide) | ((with_reducible refine vp_in_nI ?_ ?_) <;> first | omega | decide) | (simp (disch := omega) only [xl_n, xl_m, nI_dec, nI_sb, nI_add, pk_mul]; (with_reducible refine vp_in_nI ?_ ?_) <;> first | omega | decide))); (conv => whnf))
        | (refine And.intro (by first | with_reducible assumption | exact (show tL _ = _ from rfl) | decide) ?_; (conv => whnf))
        | ((with_reducible refine @And.intro (_ = _) _ ?_ ?_); (· rfl); (conv => whnf))
        | ((with_reducible refine @And.intro (@LE.le Nat _ _ _) _ ?_ ?_); (· (first | exact Nat.zero_le _ | exact Nat.le_of_ble_eq_true rfl | omega)); (conv => whnf))
        | ((with_reducible refine @And.intro (@LT.lt Nat _ _ _) _ ?_ ?_); (· omega); (conv => whnf))
        | ((with_reducible refine @And.intro (∃ _, _ = _) _ ?_ ?_); (· exact ⟨_, rfl⟩); (conv => whnf))
        | ((with_reducible refine @And.intro (_ ∨ _) _ ?_ ?_); (· (first | exact Or.inl rfl | exact Or.inr rfl | exact t_b01 _ | assumption)); (conv => whnf))
        | ((with_reducible refine @And.intro (¬ (_ = _)) _ ?_ ?_); (· first | assumption | (with_reducible assumption)); (conv => whnf))
        | (refine hX _ _ _ _ _ _ ?_; (conv => whnf); fail_if_success show False)
        | (rw [t_si]; (conv => whnf))
        | (refine ⟨_, rfl, ?_⟩; (conv => whnf))
        | (refine ⟨_, _, rfl, ?_⟩; (conv => whnf))
        | (refine ⟨_, _, _, rfl, ?_⟩; (conv => whnf))
        | (refine ⟨_, _, _, _, rfl, ?_⟩; (conv => whnf))
        | fail)
      refine And.intro (fun c => ?_) (fun c => ?_) <;> (conv => whnf)
      · repeat' (first
          | ((with_reducible refine @And.intro (vp_in _ _) _ ?_ ?_); (· (first | with_reducible assumption | ((with_reducible refine t_vin ?_); decide) | ((with_reducible refine vp_in_nI ?_ ?_) <;> first | omega | decide) | (simp (disch := omega) only [xl_n, xl_m, nI_dec, nI_sb, nI_add, pk_mul]; (with_reducible refine vp_in_nI ?_ ?_) <;> first | omega | decide))); (conv => whnf))
          | (refine And.intro (by first | with_reducible assumption | exact (show tL _ = _ from rfl) | decide) ?_; (conv => whnf))
          | ((with_reducible refine @And.intro (_ = _) _ ?_ ?_); (· rfl); (conv => whnf))
          | ((with_reducible refine @And.intro (@LE.le Nat _ _ _) _ ?_ ?_); (· (first | exact Nat.zero_le _ | exact Nat.le_of_ble_eq_true rfl | omega)); (conv => whnf))
          | ((with_reducible refine @And.intro (@LT.lt Nat _ _ _) _ ?_ ?_); (· omega); (conv => whnf))
          | ((with_reducible refine @And.intro (∃ _, _ = _) _ ?_ ?_); (· exact ⟨_, rfl⟩); (conv => whnf))
          | ((with_reducible refine @And.intro (_ ∨ _) _ ?_ ?_); (· (first | exact Or.inl rfl | exact Or.inr rfl | exact t_b01 _ | assumption)); (conv => whnf))
          | ((with_reducible refine @And.intro (¬ (_ = _)) _ ?_ ?_); (· first | assumption | (with_reducible assumption)); (conv => whnf))
          | (refine hX _ _ _ _ _ _ ?_; (conv => whnf); fail_if_success show False)
          | (rw [t_si]; (conv => whnf))
          | (refine ⟨_, rfl, ?_⟩; (conv => whnf))
          | (refine ⟨_, _, rfl, ?_⟩; (conv => whnf))
          | (refine ⟨_, _, _, rfl, ?_⟩; (conv => whnf))
          | (refine ⟨_, _, _, _, rfl, ?_⟩; (conv => whnf))
          | fail)
        have : k = g - d := Nat.le_antisymm h1 (t_kge h42 c (by omega) (by omega))
        refine hQ M hgM ?_ h0
        rw [hM.now hg hB, hA, h42, this]
        rfl
      · have hk : k < g - d := t_klt h42 c (by omega)
        repeat' (first
          | ((with_reducible refine @And.intro (vp_in _ _) _ ?_ ?_); (· (first | with_reducible assumption | ((with_reducible refine t_vin ?_); decide) | ((with_reducible refine vp_in_nI ?_ ?_) <;> first | omega | decide) | (simp (disch := omega) only [xl_n, xl_m, nI_dec, nI_sb, nI_add, pk_mul]; (with_reducible refine vp_in_nI ?_ ?_) <;> first | omega | decide))); (conv => whnf))
          | (refine And.intro (by first | with_reducible assumption | exact (show tL _ = _ from rfl) | decide) ?_; (conv => whnf))
          | ((with_reducible refine @And.intro (_ = _) _ ?_ ?_); (· rfl); (conv => whnf))
          | ((with_reducible refine @And.intro (@LE.le Nat _ _ _) _ ?_ ?_); (· (first | exact Nat.zero_le _ | exact Nat.le_of_ble_eq_true rfl | omega)); (conv => whnf))
          | ((with_reducible refine @And.intro (@LT.lt Nat _ _ _) _ ?_ ?_); (· omega); (conv => whnf))
          | ((with_reducible refine @And.intro (∃ _, _ = _) _ ?_ ?_); (· exact ⟨_, rfl⟩); (conv => whnf))
          | ((with_reducible refine @And.intro (_ ∨ _) _ ?_ ?_); (· (first | exact Or.inl rfl | exact Or.inr rfl | exact t_b01 _ | assumption)); (conv => whnf))
          | ((with_reducible refine @And.intro (¬ (_ = _)) _ ?_ ?_); (· first | assumption | (with_reducible assumption)); (conv => whnf))
          | (refine hX _ _ _ _ _ _ ?_; (conv => whnf); fail_if_success show False)
          | (rw [t_si]; (conv => whnf))
          | (refine ⟨_, rfl, ?_⟩; (conv => whnf))
          | (refine ⟨_, _, rfl, ?_⟩; (conv => whnf))
          | (refine ⟨_, _, _, rfl, ?_⟩; (conv => whnf))
          | (refine ⟨_, _, _, _, rfl, ?_⟩; (conv => whnf))
          | (refine And.intro (fun c => ?_) (fun c => ?_) <;> (first | (exact absurd c (by decide +kernel)) | (conv => whnf)))
          | fail)
        intro L hL hE
        (conv => whnf)
        have eL := t_go hgM.2.2.1 hE
        have hL0 : ∀ k, k ≠ 44 → ¬ t_scf k → L 0 k = M 0 k := fun k a b => hL.2 k b a
        have := ih (k + 1) (by omega) (by omega) L (hM.tr (hL.sm (Or.inl rfl))) (by
          rw [hL0 0 (by decide) (by unfold t_scf; omega)]
          exact h0) (by
          rw [hL0 42 (by decide) (by unfold t_scf; omega)]
          exact h42) (by
          rw [hL.A (q := 37) (show tL 37 = _ from rfl) (by decide)]
          exact hB) (by
          rw [eL, eK, hA, g_gos_s])
        clear ih
        repeat' (first
          | ((with_reducible refine @And.intro (vp_in _ _) _ ?_ ?_); (· (first | with_reducible assumption | ((with_reducible refine t_vin ?_); decide) | ((with_reducible refine vp_in_nI ?_ ?_) <;> first | omega | decide) | (simp (disch := omega) only [xl_n, xl_m, nI_dec, nI_sb, nI_add, pk_mul]; (with_reducible refine vp_in_nI ?_ ?_) <;> first | omega | decide))); (conv => whnf))
          | (refine And.intro (by first | with_reducible assumption | exact (show tL _ = _ from rfl) | decide) ?_; (conv => whnf))
          | ((with_reducible refine @And.intro (_ = _) _ ?_ ?_); (· rfl); (conv => whnf))
          | ((with_reducible refine @And.intro (@LE.le Nat _ _ _) _ ?_ ?_); (· (first | exact Nat.zero_le _ | exact Nat.le_of_ble_eq_true rfl | omega)); (conv => whnf))
          | ((with_reducible refine @And.intro (@LT.lt Nat _ _ _) _ ?_ ?_); (· omega); (conv => whnf))
          | ((with_reducible refine @And.intro (∃ _, _ = _) _ ?_ ?_); (· exact ⟨_, rfl⟩); (conv => whnf))
          | ((with_reducible refine @And.intro (_ ∨ _) _ ?_ ?_); (· (first | exact Or.inl rfl | exact Or.inr rfl | exact t_b01 _ | assumption)); (conv => whnf))
          | ((with_reducible refine @And.intro (¬ (_ = _)) _ ?_ ?_); (· first | assumption | (with_reducible assumption)); (conv => whnf))
          | (refine hX _ _ _ _ _ _ ?_; (conv => whnf); fail_if_success show False)
          | (rw [t_si]; (conv => whnf))
          | (refine ⟨_, rfl, ?_⟩; (conv => whnf))
          | (refine ⟨_, _, rfl, ?_⟩; (conv => whnf))
          | (refine ⟨_, _, _, rfl, ?_⟩; (conv => whnf))
          | (refine ⟨_, _, _, _, rfl, ?_⟩; (conv => whnf))
          | (refine And.intro (fun c => ?_) (fun c => ?_) <;> (first | (exact absurd c (by decide +kernel)) | (conv => whnf)))
          | fail)
        clear hX hG hQ
        simp (disch := omega) only [xl_n, xl_m, nI_dec, nI_sb, xl_0, xl_1, tW_i, t_bn0, t_bn1, Classical.not_not, t_lt, nI_add, nI_1, pk_mul, nI_clamp, t_si, nI_eq, nI_leI, nM_ne, nM_ne, xm_set, xm_lv0, xm_psh] at *
        exact this
    have ex : t_less (nI n) ((tW J).2.1 0 42) = nI d := by rw [tW_i, e42, el]
    repeat' (first
      | ((with_reducible refine @And.intro (vp_in _ _) _ ?_ ?_); (· (first | with_reducible assumption | ((with_reducible refine t_vin ?_); decide) | ((with_reducible refine vp_in_nI ?_ ?_) <;> first | omega | decide) | (simp (disch := omega) only [xl_n, xl_m, nI_dec, nI_sb, nI_add, pk_mul]; (with_reducible refine vp_in_nI ?_ ?_) <;> first | omega | decide))); (conv => whnf))
      | (refine And.intro (by first | with_reducible assumption | exact (show tL _ = _ from rfl) | decide) ?_; (conv => whnf))
      | ((with_reducible refine @And.intro (_ = _) _ ?_ ?_); (· rfl); (conv => whnf))
      | ((with_reducible refine @And.intro (@LE.le Nat _ _ _) _ ?_ ?_); (· (first | exact Nat.zero_le _ | exact Nat.le_of_ble_eq_true rfl | omega)); (conv => whnf))
      | ((with_reducible refine @And.intro (@LT.lt Nat _ _ _) _ ?_ ?_); (· omega); (conv => whnf))
      | ((with_reducible refine @And.intro (∃ _, _ = _) _ ?_ ?_); (· exact ⟨_, rfl⟩); (conv => whnf))
      | ((with_reducible refine @And.intro (_ ∨ _) _ ?_ ?_); (· (first | exact Or.inl rfl | exact Or.inr rfl | exact t_b01 _ | assumption)); (conv => whnf))
      | ((with_reducible refine @And.intro (¬ (_ = _)) _ ?_ ?_); (· first | assumption | (with_reducible assumption)); (conv => whnf))
      | (refine hX _ _ _ _ _ _ ?_; (conv => whnf); fail_if_success show False)
      | (rw [t_si]; simp (disch := omega) only [xl_n, xl_m, nI_dec, nI_sb, xl_0, xl_1, tW_i, t_bn0, t_bn1, Classical.not_not, t_lt, nI_add, nI_1, pk_mul, nI_clamp, t_si, nI_eq, nI_leI, nM_ne, nM_ne, xm_u2_ne, xm_u2_at, reduceIte, tK_u, tA_u, Nat.reduceEqDiff]; (conv => whnf))
      | (refine ⟨_, rfl, ?_⟩; (conv => whnf))
      | (refine ⟨_, _, rfl, ?_⟩; (conv => whnf))
      | (refine ⟨_, _, _, rfl, ?_⟩; (conv => whnf))
      | (refine ⟨_, _, _, _, rfl, ?_⟩; (conv => whnf))
      | (rw [e1]; (conv => whnf))
      | (rw [ex]; (conv => whnf))
      | (refine And.intro (fun c => ?_) (fun c => ?_) <;> (first | (exact absurd c (by decide +kernel)) | (conv => whnf)))
      | fail)
    · intro M hM hk
      (conv => whnf)
      have ew : J 0 42 - nI d = nI (g - d) := by rw [e42, es]
      have f0 : M 0 = xm_u2 J 0 42 (J 0 42 - nI d) 0 := hM 0 (by decide)
      repeat' (first
        | ((with_reducible refine @And.intro (vp_in _ _) _ ?_ ?_); (· (first | with_reducible assumption | ((with_reducible refine t_vin ?_); decide) | ((with_reducible refine vp_in_nI ?_ ?_) <;> first | omega | decide) | (simp (disch := omega) only [xl_n, xl_m, nI_dec, nI_sb, nI_add, pk_mul]; (with_reducible refine vp_in_nI ?_ ?_) <;> first | omega | decide))); (conv => whnf))
        | (refine And.intro (by first | with_reducible assumption | exact (show tL _ = _ from rfl) | decide) ?_; (conv => whnf))
        | ((with_reducible refine @And.intro (_ = _) _ ?_ ?_); (· rfl); (conv => whnf))
        | ((with_reducible refine @And.intro (@LE.le Nat _ _ _) _ ?_ ?_); (· (first | exact Nat.zero_le _ | exact Nat.le_of_ble_eq_true rfl | omega)); (conv => whnf))
        | ((with_reducible refine @And.intro (@LT.lt Nat _ _ _) _ ?_ ?_); (· omega); (conv => whnf))
        | ((with_reducible refine @And.intro (∃ _, _ = _) _ ?_ ?_); (· exact ⟨_, rfl⟩); (conv => whnf))
        | ((with_reducible refine @And.intro (_ ∨ _) _ ?_ ?_); (· (first | exact Or.inl rfl | exact Or.inr rfl | exact t_b01 _ | assumption)); (conv => whnf))
        | ((with_reducible refine @And.intro (¬ (_ = _)) _ ?_ ?_); (· first | assumption | (with_reducible assumption)); (conv => whnf))
        | (refine hX _ _ _ _ _ _ ?_; (conv => whnf); fail_if_success show False)
        | (rw [t_si]; (conv => whnf))
        | (refine ⟨_, rfl, ?_⟩; (conv => whnf))
        | (refine ⟨_, _, rfl, ?_⟩; (conv => whnf))
        | (refine ⟨_, _, _, rfl, ?_⟩; (conv => whnf))
        | (refine ⟨_, _, _, _, rfl, ?_⟩; (conv => whnf))
        | (refine And.intro (fun c => ?_) (fun c => ?_) <;> (first | (exact absurd c (by decide +kernel)) | (conv => whnf)))
        | fail)
      refine loop (fun q => c (q.trans nI_0)) 0 (Nat.zero_le _) M (t_sm.g.tr ((hM.sc (by decide)).sl.sm (Or.inl rfl))) ?_ ?_ ?_ ?_
      · rw [f0, xm_u2_at, if_neg (by decide)]
        exact h01
      · rw [f0, xm_u2_at, if_pos rfl, ew]
      · rw [tA_eq (I := J) (r := 37) fun k _ => by rw [hM 37 (by decide)]; exact xm_u2_ne (by decide) k]
      · rw [tA_eq (I := J) (r := 37) fun k q => by rw [hk k q]; exact xm_u2_ne (by decide) k]
        rfl
    · have c' : nI d = nI 0 := (show nI d = 0 from Classical.not_not.mp c).trans nI_0.symm
      rw [if_pos c'] at hQ
      exact t_ask hQ hg t_sp.rf h01 xl_n.1
  · repeat' (first
      | ((with_reducible refine @And.intro (vp_in _ _) _ ?_ ?_); (· (first | with_reducible assumption | ((with_reducible refine t_vin ?_); decide) | ((with_reducible refine vp_in_nI ?_ ?_) <;> first | omega | decide) | (simp (disch := omega) only [xl_n, xl_m, nI_dec, nI_sb, nI_add, pk_mul]; (with_reducible refine vp_in_nI ?_ ?_) <;> first | omega | decide))); (conv => whnf))
      | (refine And.intro (by first | with_reducible assumption | exact (show tL _ = _ from rfl) | decide) ?_; (conv => whnf))
      | ((with_reducible refine @And.intro (_ = _) _ ?_ ?_); (· rfl); (conv => whnf))
      | ((with_reducible refine @And.intro (@LE.le Nat _ _ _) _ ?_ ?_); (· (first | exact Nat.zero_le _ | exact Nat.le_of_ble_eq_true rfl | omega)); (conv => whnf))
      | ((with_reducible refine @And.intro (@LT.lt Nat _ _ _) _ ?_ ?_); (· omega); (conv => whnf))
      | ((with_reducible refine @And.intro (∃ _, _ = _) _ ?_ ?_); (· exact ⟨_, rfl⟩); (conv => whnf))
      | ((with_reducible refine @And.intro (_ ∨ _) _ ?_ ?_); (· (first | exact Or.inl rfl | exact Or.inr rfl | exact t_b01 _ | assumption)); (conv => whnf))
      | ((with_reducible refine @And.intro (¬ (_ = _)) _ ?_ ?_); (· first | assumption | (with_reducible assumption)); (conv => whnf))
      | (refine hX _ _ _ _ _ _ ?_; (conv => whnf); fail_if_success show False)
      | (rw [t_si]; (conv => whnf))
      | (refine ⟨_, rfl, ?_⟩; (conv => whnf))
      | (refine ⟨_, _, rfl, ?_⟩; (conv => whnf))
      | (refine ⟨_, _, _, rfl, ?_⟩; (conv => whnf))
      | (refine ⟨_, _, _, _, rfl, ?_⟩; (conv => whnf))
      | (rw [e1]; (conv => whnf))
      | (refine And.intro (fun c => ?_) (fun c => ?_) <;> (first | (exact absurd c (by decide +kernel)) | (conv => whnf)))
      | fail)
    exact t_ref' hQ hg h01 (by simp [f1]) (by decide) rfl rfl
theorem ct_X11_undo {Iv : xI} (hI : xm_good Iv) : xm_Ct Iv yX11_undo (ws_ yX11_undo cX11_undo 4 (some .int)) 7 0 0 S_X11_undo := xm_enter (rt := 0) (init := false) (by decide +kernel) rfl (fun h => by cases h) (Or.inl ⟨rfl, rfl⟩) (oX11_undo hI) body_X11_undo
theorem cv_X11_undo {Iv : xI} {own : String} {cc : ByteArray} {fr pc idx : Nat} (hI : xm_good Iv) (hdg : decode cc pc = .ok (.invokevirtual idx, 3)) (hl : xm_ml own idx yX11_undo) (hfr : 7 < fr) : xm_CallOK Iv own cc fr pc (pc + 3) 2 0 0 (xm_this 8 S_X11_undo) := xm_callV 8 hI (ct_X11_undo hI) hdg hl q2396 q2397 q145 q2398 rfl rfl (by decide +kernel) hfr (by decide)
