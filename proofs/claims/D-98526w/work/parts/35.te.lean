/-! ===== the reference: scores, whom a puppet chooses ===== -/
set_option maxRecDepth 100000
theorem t_ev_c {I : tI} (hl : t_lok I) {f g : Nat → Int32} (h : ∀ j, j < 9 → f j = g j) : ∀ k, k ≤ t_lm I → t_ev I f k = t_ev I g k
  | 0, _ => rfl
  | k + 1, hk => by
    obtain ⟨z, hz, e, -, h1⟩ := hl.2.2.1 k (by omega)
    have ih := t_ev_c hl h k (by omega)
    unfold t_ev
    rw [ih]
    by_cases e1 : I (200 + k) 0 = nI 1
    · have : z = 1 := by
        rw [e, nI_eq (by omega) (by omega)] at e1
        exact e1
      obtain ⟨j, hj, e2⟩ := h1 this
      rw [e2, nI_clamp (by omega), h j hj]
    · rw [if_neg e1, if_neg e1]
theorem t_law_c {I : tI} (hl : t_lok I) {f g : Nat → Int32} (h : ∀ j, j < 9 → f j = g j) : t_law I f = t_law I g := by
  unfold t_law
  rw [h 0 (by omega), h 3 (by omega), h 8 (by omega), t_ev_c hl h _ (Nat.le_refl _)]
theorem t_u12 {I : tI} {a k : Nat} {v : Int32} (h : a ≠ 12) (hok : t_ok I) : t_ok (xm_u2 I a k v) := t_ok_eq hok (funext fun j => xm_u2_ne (Ne.symm h) j)
abbrev bX11_scoreOf_0 : List xE := [(.aload_n 0, 1, 0, 0, 0), (.getfield 88, 4, 8, 35, 1), (.iconst 0, 5, 0, 0, 0), (.aload_n 0, 6, 0, 0, 0), (.getfield 49, 9, 8, 20, 1), (.iload_n 3, 10, 0, 0, 0), (.aaload, 11, 0, 0, 0), (.iconst 0, 12, 0, 0, 0), (.iaload, 13, 0, 0, 0), (.iastore, 14, 0, 0, 0), (.aload_n 0, 15, 0, 0, 0), (.getfield 88, 18, 8, 35, 1), (.iconst 1, 19, 0, 0, 0), (.aload_n 0, 20, 0, 0, 0), (.getfield 55, 23, 8, 22, 1), (.iload_n 2, 24, 0, 0, 0), (.aaload, 25, 0, 0, 0), (.iconst 0, 26, 0, 0, 0), (.iaload, 27, 0, 0, 0), (.iastore, 28, 0, 0, 0), (.aload_n 0, 29, 0, 0, 0), (.getfield 88, 32, 8, 35, 1), (.iconst 2, 33, 0, 0, 0), (.aload_n 1, 34, 0, 0, 0), (.bipush 106, 36, 0, 0, 0), (.iaload, 37, 0, 0, 0), (.aload_n 0, 38, 0, 0, 0), (.getfield 49, 41, 8, 20, 1), (.iload_n 3, 42, 0, 0, 0), (.aaload, 43, 0, 0, 0), (.iconst 1, 44, 0, 0, 0), (.iaload, 45, 0, 0, 0), (.isub, 46, 0, 0, 0), (.iastore, 47, 0, 0, 0), (.aload_n 0, 48, 0, 0, 0), (.getfield 88, 51, 8, 35, 1), (.iconst 3, 52, 0, 0, 0), (.aload_n 0, 53, 0, 0, 0), (.aload_n 1, 54, 0, 0, 0), (.iload_n 3, 55, 0, 0, 0), (.invokevirtual 334, 58, 0, 0, 9), (.invokestatic 246, 61, 0, 1, 9), (.iastore, 62, 0, 0, 0), (.aload_n 0, 63, 0, 0, 0), (.getfield 88, 66, 8, 35, 1), (.iconst 4, 67, 0, 0, 0), (.aload_n 1, 68, 0, 0, 0), (.bipush 9, 70, 0, 0, 0), (.iload_n 2, 71, 0, 0, 0), (.iadd, 72, 0, 0, 0), (.iaload, 73, 0, 0, 0), (.iastore, 74, 0, 0, 0), (.aload_n 0, 75, 0, 0, 0), (.getfield 88, 78, 8, 35, 1), (.iconst 5, 79, 0, 0, 0), (.aload_n 1, 80, 0, 0, 0), (.bipush 106, 82, 0, 0, 0), (.iaload, 83, 0, 0, 0), (.iastore, 84, 0, 0, 0), (.aload_n 0, 85, 0, 0, 0), (.getfield 88, 88, 8, 35, 1), (.bipush 6, 90, 0, 0, 0), (.iload_n 3, 91, 0, 0, 0), (.iastore, 92, 0, 0, 0), (.aload_n 0, 93, 0, 0, 0), (.getfield 88, 96, 8, 35, 1), (.bipush 7, 98, 0, 0, 0), (.iload_n 2, 99, 0, 0, 0), (.iastore, 100, 0, 0, 0), (.aload_n 0, 101, 0, 0, 0), (.getfield 88, 104, 8, 35, 1), (.bipush 8, 106, 0, 0, 0), (.aload_n 0, 107, 0, 0, 0), (.aload_n 1, 108, 0, 0, 0), (.iload_n 2, 109, 0, 0, 0), (.iload_n 3, 110, 0, 0, 0), (.invokevirtual 350, 113, 0, 2, 9), (.iastore, 114, 0, 0, 0), (.aload_n 0, 115, 0, 0, 0), (.invokevirtual 354, 118, 0, 3, 9), (.ireturn, 119, 0, 0, 0)]
abbrev kX11_scoreOf : List (Nat × List xE) := [(0, bX11_scoreOf_0)]
abbrev lX11_scoreOf : List (Nat × Nat × Nat × xS) := [(3, 0, 0, xm_this 8 S_X11_workOf), (1, 0, 0, S_X11_ones), (4, 0, 0, xm_this 8 S_X11_kinOf), (1, 0, 0, xm_this 8 S_X11_byLaw)]
theorem oX11_scoreOf_0 {Iv : xI} (hI : xm_good Iv)  : xm_okb Iv RX11 cX11_scoreOf false 4 lX11_scoreOf bX11_scoreOf_0 0 := xo_0 dX11_scoreOf_0 rfl trivial (xo_1 dX11_scoreOf_1 rfl (xm_fg_of (Or.inl q1990) (by decide) rfl (by decide) rfl rfl (Or.inl rfl) rfl) (xo_0 dX11_scoreOf_4 rfl trivial (xo_0 dX11_scoreOf_5 rfl trivial (xo_1 dX11_scoreOf_6 rfl (xm_fg_of (Or.inl q1975) (by decide) rfl (by decide) rfl rfl (Or.inl rfl) rfl) (xo_0 dX11_scoreOf_9 rfl trivial (xo_0 dX11_scoreOf_10 rfl trivial (xo_0 dX11_scoreOf_11 rfl trivial (xo_0 dX11_scoreOf_12 rfl trivial (xo_0 dX11_scoreOf_13 rfl trivial (xo_0 dX11_scoreOf_14 rfl trivial (xo_1 dX11_scoreOf_15 rfl (xm_fg_of (Or.inl q1990) (by decide) rfl (by decide) rfl rfl (Or.inl rfl) rfl) (xo_0 dX11_scoreOf_18 rfl trivial (xo_0 dX11_scoreOf_19 rfl trivial (xo_1 dX11_scoreOf_20 rfl (xm_fg_of (Or.inl q1977) (by decide) rfl (by decide) rfl rfl (Or.inl rfl) rfl) (xo_0 dX11_scoreOf_23 rfl trivial (xo_0 dX11_scoreOf_24 rfl trivial (xo_0 dX11_scoreOf_25 rfl trivial (xo_0 dX11_scoreOf_26 rfl trivial (xo_0 dX11_scoreOf_27 rfl trivial (xo_0 dX11_scoreOf_28 rfl trivial (xo_1 dX11_scoreOf_29 rfl (xm_fg_of (Or.inl q1990) (by decide) rfl (by decide) rfl rfl (Or.inl rfl) rfl) (xo_0 dX11_scoreOf_32 rfl trivial (xo_0 dX11_scoreOf_33 rfl trivial (xo_0 dX11_scoreOf_34 rfl (xo_bipush (by decide +kernel)) (xo_0 dX11_scoreOf_36 rfl trivial (xo_0 dX11_scoreOf_37 rfl trivial (xo_1 dX11_scoreOf_38 rfl (xm_fg_of (Or.inl q1975) (by decide) rfl (by decide) rfl rfl (Or.inl rfl) rfl) (xo_0 dX11_scoreOf_41 rfl trivial (xo_0 dX11_scoreOf_42 rfl trivial (xo_0 dX11_scoreOf_43 rfl trivial (xo_0 dX11_scoreOf_44 rfl trivial (xo_0 dX11_scoreOf_45 rfl trivial (xo_0 dX11_scoreOf_46 rfl trivial (xo_0 dX11_scoreOf_47 rfl trivial (xo_1 dX11_scoreOf_48 rfl (xm_fg_of (Or.inl q1990) (by decide) rfl (by decide) rfl rfl (Or.inl rfl) rfl) (xo_0 dX11_scoreOf_51 rfl trivial (xo_0 dX11_scoreOf_52 rfl trivial (xo_0 dX11_scoreOf_53 rfl trivial (xo_0 dX11_scoreOf_54 rfl trivial (xo_c rfl (cv_X11_workOf hI dX11_scoreOf_55 (Or.inl q2308) (by decide)) (xo_c rfl (cv_X11_ones hI dX11_scoreOf_58 (Or.inl q2218) (by decide)) (xo_0 dX11_scoreOf_61 rfl trivial (xo_0 dX11_scoreOf_62 rfl trivial (xo_1 dX11_scoreOf_63 rfl (xm_fg_of (Or.inl q1990) (by decide) rfl (by decide) rfl rfl (Or.inl rfl) rfl) (xo_0 dX11_scoreOf_66 rfl trivial (xo_0 dX11_scoreOf_67 rfl trivial (xo_0 dX11_scoreOf_68 rfl (xo_bipush (by decide +kernel)) (xo_0 dX11_scoreOf_70 rfl trivial (xo_0 dX11_scoreOf_71 rfl trivial (xo_0 dX11_scoreOf_72 rfl trivial (xo_0 dX11_scoreOf_73 rfl trivial (xo_0 dX11_scoreOf_74 rfl trivial (xo_1 dX11_scoreOf_75 rfl (xm_fg_of (Or.inl q1990) (by decide) rfl (by decide) rfl rfl (Or.inl rfl) rfl) (xo_0 dX11_scoreOf_78 rfl trivial (xo_0 dX11_scoreOf_79 rfl trivial (xo_0 dX11_scoreOf_80 rfl (xo_bipush (by decide +kernel)) (xo_0 dX11_scoreOf_82 rfl trivial (xo_0 dX11_scoreOf_83 rfl trivial (xo_0 dX11_scoreOf_84 rfl trivial (xo_1 dX11_scoreOf_85 rfl (xm_fg_of (Or.inl q1990) (by decide) rfl (by decide) rfl rfl (Or.inl rfl) rfl) (xo_0 dX11_scoreOf_88 rfl (xo_bipush (by decide +kernel)) (xo_0 dX11_scoreOf_90 rfl trivial (xo_0 dX11_scoreOf_91 rfl trivial (xo_0 dX11_scoreOf_92 rfl trivial (xo_1 dX11_scoreOf_93 rfl (xm_fg_of (Or.inl q1990) (by decide) rfl (by decide) rfl rfl (Or.inl rfl) rfl) (xo_0 dX11_scoreOf_96 rfl (xo_bipush (by decide +kernel)) (xo_0 dX11_scoreOf_98 rfl trivial (xo_0 dX11_scoreOf_99 rfl trivial (xo_0 dX11_scoreOf_100 rfl trivial (xo_1 dX11_scoreOf_101 rfl (xm_fg_of (Or.inl q1990) (by decide) rfl (by decide) rfl rfl (Or.inl rfl) rfl) (xo_0 dX11_scoreOf_104 rfl (xo_bipush (by decide +kernel)) (xo_0 dX11_scoreOf_106 rfl trivial (xo_0 dX11_scoreOf_107 rfl trivial (xo_0 dX11_scoreOf_108 rfl trivial (xo_0 dX11_scoreOf_109 rfl trivial (xo_c rfl (cv_X11_kinOf hI dX11_scoreOf_110 (Or.inl q2347) (by decide)) (xo_0 dX11_scoreOf_113 rfl trivial (xo_0 dX11_scoreOf_114 rfl trivial (xo_c rfl (cv_X11_byLaw hI dX11_scoreOf_115 (Or.inl q2351) (by decide)) (xo_0 dX11_scoreOf_118 rfl trivial (xo_n)))))))))))))))))))))))))))))))))))))))))))))))))))))))))))))))))))))))))))))))))
theorem oX11_scoreOf {Iv : xI} (hI : xm_good Iv)  : ∀ q ∈ kX11_scoreOf, xm_okb Iv RX11 cX11_scoreOf false 4 lX11_scoreOf q.2 q.1 := by
  intro q hq
  simp only [List.mem_cons, List.not_mem_nil, or_false] at hq
  subst hq
  exact oX11_scoreOf_0 hI  
def S_X11_scoreOf : xS := tU fun as I Q => ∃ row p h, as = [.ref 0, .ref row, .int (nI p), .int (nI h)] ∧ t_row row ∧ t_ok I ∧ t_lok I ∧ p < t_p I ∧ h < t_h I ∧ ∀ J, t_sc 34 I J → Q (some (.int (g_score (tK I) (tA I row) p h))) J
theorem body_X11_scoreOf : xm_Body 4 0 0 0 [] lX11_scoreOf kX11_scoreOf S_X11_scoreOf := by
  intro X avs w Q QX hX0 hS
  have hG := xm_go [] hX0
  have hX := xm_go [] hX0
  clear hX0
  obtain ⟨I, rfl, row, p, h, rfl, hr, hok, hl, hp, hh, hQ⟩ := hS
  have h8 : p < 8 := Nat.lt_of_lt_of_le hp hok.2.2.2.1
  have h9 : h < 9 := Nat.lt_of_lt_of_le hh hok.2.1
  have h35 : row ≠ 35 := fun e => t_row_scr hr (Or.inr e)
  have hk : ∀ J, t_sc 34 I J → tK J = tK I ∧ tA J row = tA I row ∧ t_ok J ∧ t_lok J := fun J hJ => ⟨hJ.K t_r34 hok hl, hJ.A hr (t_row34 hr), hJ.ok t_r34 hok, hJ.lok t_r34 hl⟩
  refine ⟨rfl, ?_⟩
  repeat' (first
    | ((with_reducible refine @And.intro (vp_in _ _) _ ?_ ?_); (· (first | with_reducible assumption | ((with_reducible refine t_vin ?_); decide) | ((with_reducible refine vp_in_nI ?_ ?_) <;> first | omega | decide) | (simp (disch := omega) only [xl_n, xl_m, nI_dec, nI_sb, nI_add, pk_mul]; (with_reducible refine vp_in_nI ?_ ?_) <;> first | omega | decide))); (conv => whnf))
    | (refine And.intro (by first | with_reducible assumption | exact (show tL _ = _ from rfl) | decide) ?_; (conv => whnf))
    | ((with_reducible refine @And.intro (_ = _) _ ?_ ?_); (· rfl); (conv => whnf))
    | ((with_reducible refine @And.intro (@LE.le Nat _ _ _) _ ?_ ?_); (· (first | exact Nat.zero_le _ | exact Nat.le_of_ble_eq_true rfl | omega)); (conv => whnf))
    | ((with_reducible refine @And.intro (@LT.lt Nat _ _ _) _ ?_ ?_); (· omega); (conv => whnf))
    | ((with_reducible refine @And.intro (∃ _, _ = _) _ ?_ ?_); (· exact ⟨_, rfl⟩); (conv => whnf))
    | ((with_reducible refine @And.intro (_ ∨ _) _ ?_ ?_); (· (first | exact Or.inl rfl | exact Or.inr rfl | exact t_b01 _ | assumption)); (conv => whnf))
    | ((with_reducible refine @And.intro (¬ (_ = _)) _ ?_ ?_); (· first | assumption | (with_reducible assumption)); (conv => whnf))
    | (refine hX _ _ _ _ _ _ ?_; (conv => whnf); fail_if_success show False)
    | (rw [t_si]; simp (disch := omega) only [xl_n, xl_m, nI_dec, nI_sb, xl_0, xl_1, tW_i, t_bn0, t_bn1, Classical.not_not, t_lt, nI_add, nI_1, pk_mul, nI_clamp, t_si, nI_eq, nI_leI, nM_ne, nM_ne, xm_u2_ne, xm_u2_at, reduceIte, tK_u, tA_u, Nat.reduceEqDiff]; (conv => whnf))
    | (refine ⟨_, rfl, ?_⟩; (conv => whnf))
    | (refine ⟨_, _, rfl, ?_⟩; (conv => whnf))
    | (refine ⟨_, _, _, rfl, ?_⟩; (conv => whnf))
    | (refine ⟨_, _, _, _, rfl, ?_⟩; (conv => whnf))
    | (rw [t_lrow hr]; (conv => whnf))
    | (rw [t_l110 (by first | with_reducible assumption | omega | exact vp_lt (by assumption) | (rw [nI_clamp (by omega)]; omega))]; (conv => whnf))
    | (rw [t_l130 (by first | with_reducible assumption | omega | exact vp_lt (by assumption) | (rw [nI_clamp (by omega)]; omega))]; (conv => whnf))
    | (refine And.intro (fun c => ?_) (fun c => ?_) <;> (first | (exact absurd c (by decide +kernel)) | (conv => whnf)))
    | fail)
  refine And.intro (by repeat (first | with_reducible assumption | refine t_u12 (by decide) ?_)) ?_
  (conv => whnf)
  repeat' (first
    | ((with_reducible refine @And.intro (vp_in _ _) _ ?_ ?_); (· (first | with_reducible assumption | ((with_reducible refine t_vin ?_); decide) | ((with_reducible refine vp_in_nI ?_ ?_) <;> first | omega | decide) | (simp (disch := omega) only [xl_n, xl_m, nI_dec, nI_sb, nI_add, pk_mul]; (with_reducible refine vp_in_nI ?_ ?_) <;> first | omega | decide))); (conv => whnf))
    | (refine And.intro (by first | with_reducible assumption | exact (show tL _ = _ from rfl) | decide) ?_; (conv => whnf))
    | ((with_reducible refine @And.intro (_ = _) _ ?_ ?_); (· rfl); (conv => whnf))
    | ((with_reducible refine @And.intro (@LE.le Nat _ _ _) _ ?_ ?_); (· (first | exact Nat.zero_le _ | exact Nat.le_of_ble_eq_true rfl | omega)); (conv => whnf))
    | ((with_reducible refine @And.intro (@LT.lt Nat _ _ _) _ ?_ ?_); (· omega); (conv => whnf))
    | ((with_reducible refine @And.intro (∃ _, _ = _) _ ?_ ?_); (· exact ⟨_, rfl⟩); (conv => whnf))
    | ((with_reducible refine @And.intro (_ ∨ _) _ ?_ ?_); (· (first | exact Or.inl rfl | exact Or.inr rfl | exact t_b01 _ | assumption)); (conv => whnf))
    | ((with_reducible refine @And.intro (¬ (_ = _)) _ ?_ ?_); (· first | assumption | (with_reducible assumption)); (conv => whnf))
    | (refine hX _ _ _ _ _ _ ?_; (conv => whnf); fail_if_success show False)
    | (rw [t_si]; simp (disch := omega) only [xl_n, xl_m, nI_dec, nI_sb, xl_0, xl_1, tW_i, t_bn0, t_bn1, Classical.not_not, t_lt, nI_add, nI_1, pk_mul, nI_clamp, t_si, nI_eq, nI_leI, nM_ne, nM_ne, xm_u2_ne, xm_u2_at, reduceIte, tK_u, tA_u, Nat.reduceEqDiff]; (conv => whnf))
    | (refine ⟨_, rfl, ?_⟩; (conv => whnf))
    | (refine ⟨_, _, rfl, ?_⟩; (conv => whnf))
    | (refine ⟨_, _, _, rfl, ?_⟩; (conv => whnf))
    | (refine ⟨_, _, _, _, rfl, ?_⟩; (conv => whnf))
    | (rw [t_lrow hr]; (conv => whnf))
    | (rw [t_l110 (by first | with_reducible assumption | omega | exact vp_lt (by assumption) | (rw [nI_clamp (by omega)]; omega))]; (conv => whnf))
    | (rw [t_l130 (by first | with_reducible assumption | omega | exact vp_lt (by assumption) | (rw [nI_clamp (by omega)]; omega))]; (conv => whnf))
    | (refine And.intro (fun c => ?_) (fun c => ?_) <;> (first | (exact absurd c (by decide +kernel)) | (conv => whnf)))
    | fail)
  refine And.intro (by repeat (first | with_reducible assumption | refine t_u12 (by decide) ?_)) ?_
  (conv => whnf)
  repeat' (first
    | ((with_reducible refine @And.intro (vp_in _ _) _ ?_ ?_); (· (first | with_reducible assumption | ((with_reducible refine t_vin ?_); decide) | ((with_reducible refine vp_in_nI ?_ ?_) <;> first | omega | decide) | (simp (disch := omega) only [xl_n, xl_m, nI_dec, nI_sb, nI_add, pk_mul]; (with_reducible refine vp_in_nI ?_ ?_) <;> first | omega | decide))); (conv => whnf))
    | (refine And.intro (by first | with_reducible assumption | exact (show tL _ = _ from rfl) | decide) ?_; (conv => whnf))
    | ((with_reducible refine @And.intro (_ = _) _ ?_ ?_); (· rfl); (conv => whnf))
    | ((with_reducible refine @And.intro (@LE.le Nat _ _ _) _ ?_ ?_); (· (first | exact Nat.zero_le _ | exact Nat.le_of_ble_eq_true rfl | omega)); (conv => whnf))
    | ((with_reducible refine @And.intro (@LT.lt Nat _ _ _) _ ?_ ?_); (· omega); (conv => whnf))
    | ((with_reducible refine @And.intro (∃ _, _ = _) _ ?_ ?_); (· exact ⟨_, rfl⟩); (conv => whnf))
    | ((with_reducible refine @And.intro (_ ∨ _) _ ?_ ?_); (· (first | exact Or.inl rfl | exact Or.inr rfl | exact t_b01 _ | assumption)); (conv => whnf))
    | ((with_reducible refine @And.intro (¬ (_ = _)) _ ?_ ?_); (· first | assumption | (with_reducible assumption)); (conv => whnf))
    | (refine hX _ _ _ _ _ _ ?_; (conv => whnf); fail_if_success show False)
    | (rw [t_si]; simp (disch := omega) only [xl_n, xl_m, nI_dec, nI_sb, xl_0, xl_1, tW_i, t_bn0, t_bn1, Classical.not_not, t_lt, nI_add, nI_1, pk_mul, nI_clamp, t_si, nI_eq, nI_leI, nM_ne, nM_ne, xm_u2_ne, xm_u2_at, reduceIte, tK_u, tA_u, Nat.reduceEqDiff]; (conv => whnf))
    | (refine ⟨_, rfl, ?_⟩; (conv => whnf))
    | (refine ⟨_, _, rfl, ?_⟩; (conv => whnf))
    | (refine ⟨_, _, _, rfl, ?_⟩; (conv => whnf))
    | (refine ⟨_, _, _, _, rfl, ?_⟩; (conv => whnf))
    | (rw [t_lrow hr]; (conv => whnf))
    | (rw [t_l110 (by first | with_reducible assumption | omega | exact vp_lt (by assumption) | (rw [nI_clamp (by omega)]; omega))]; (conv => whnf))
    | (rw [t_l130 (by first | with_reducible assumption | omega | exact vp_lt (by assumption) | (rw [nI_clamp (by omega)]; omega))]; (conv => whnf))
    | (refine And.intro (fun c => ?_) (fun c => ?_) <;> (first | (exact absurd c (by decide +kernel)) | (conv => whnf)))
    | fail)
  refine And.intro (t_sc.lok (I := I) (r := 34) (by repeat (first | exact t_sc.rf | refine t_sc.w ?_ t_s35)) t_r34 hl) ?_
  (conv => whnf)
  intro J hJ
  (conv => whnf)
  repeat' (first
    | ((with_reducible refine @And.intro (vp_in _ _) _ ?_ ?_); (· (first | with_reducible assumption | ((with_reducible refine t_vin ?_); decide) | ((with_reducible refine vp_in_nI ?_ ?_) <;> first | omega | decide) | (simp (disch := omega) only [xl_n, xl_m, nI_dec, nI_sb, nI_add, pk_mul]; (with_reducible refine vp_in_nI ?_ ?_) <;> first | omega | decide))); (conv => whnf))
    | (refine And.intro (by first | with_reducible assumption | exact (show tL _ = _ from rfl) | decide) ?_; (conv => whnf))
    | ((with_reducible refine @And.intro (_ = _) _ ?_ ?_); (· rfl); (conv => whnf))
    | ((with_reducible refine @And.intro (@LE.le Nat _ _ _) _ ?_ ?_); (· (first | exact Nat.zero_le _ | exact Nat.le_of_ble_eq_true rfl | omega)); (conv => whnf))
    | ((with_reducible refine @And.intro (@LT.lt Nat _ _ _) _ ?_ ?_); (· omega); (conv => whnf))
    | ((with_reducible refine @And.intro (∃ _, _ = _) _ ?_ ?_); (· exact ⟨_, rfl⟩); (conv => whnf))
    | ((with_reducible refine @And.intro (_ ∨ _) _ ?_ ?_); (· (first | exact Or.inl rfl | exact Or.inr rfl | exact t_b01 _ | assumption)); (conv => whnf))
    | ((with_reducible refine @And.intro (¬ (_ = _)) _ ?_ ?_); (· first | assumption | (with_reducible assumption)); (conv => whnf))
    | (refine hX _ _ _ _ _ _ ?_; (conv => whnf); fail_if_success show False)
    | (rw [t_si]; (conv => whnf))
    | (refine ⟨_, rfl, ?_⟩; (conv => whnf))
    | (refine ⟨_, _, rfl, ?_⟩; (conv => whnf))
    | (refine ⟨_, _, _, rfl, ?_⟩; (conv => whnf))
    | (refine ⟨_, _, _, _, rfl, ?_⟩; (conv => whnf))
    | (refine And.intro (fun c => ?_) (fun c => ?_) <;> (first | (exact absurd c (by decide +kernel)) | (conv => whnf)))
    | fail)
  refine t_q (hQ J (t_sc.tr (by repeat (first | exact t_sc.rf | refine t_sc.w ?_ t_s35)) (hJ.sc (by decide)))) ?_
  simp (disch := omega) only [tlaw_u]
  refine t_law_c hl fun j hj => ?_
  have q : j = 0 ∨ j = 1 ∨ j = 2 ∨ j = 3 ∨ j = 4 ∨ j = 5 ∨ j = 6 ∨ j = 7 ∨ j = 8 := by omega
  clear hX hG hQ hJ hk
  rcases q with rfl | rfl | rfl | rfl | rfl | rfl | rfl | rfl | rfl <;> simp [xm_u2, g_facts, tK_limp hh, tK_fall hp, tK_born hh, tA_gs h8, tA_gy]
theorem ct_X11_scoreOf {Iv : xI} (hI : xm_good Iv) : xm_Ct Iv yX11_scoreOf (ws_ yX11_scoreOf cX11_scoreOf 4 (some .int)) 4 0 0 S_X11_scoreOf := xm_enter (rt := 0) (init := false) (by decide +kernel) rfl (fun h => by cases h) (Or.inl ⟨rfl, rfl⟩) (oX11_scoreOf hI) body_X11_scoreOf
theorem cv_X11_scoreOf {Iv : xI} {own : String} {cc : ByteArray} {fr pc idx : Nat} (hI : xm_good Iv) (hdg : decode cc pc = .ok (.invokevirtual idx, 3)) (hl : xm_ml own idx yX11_scoreOf) (hfr : 4 < fr) : xm_CallOK Iv own cc fr pc (pc + 3) 4 0 0 (xm_this 8 S_X11_scoreOf) := xm_callV 8 hI (ct_X11_scoreOf hI) hdg hl q2345 qs91 q145 q2346 rfl rfl (by decide +kernel) hfr (by decide)
theorem g_best_s {K : gK} {T : gT} {p n : Nat} : g_best K T p (n + 1) = if (g_may K T p n && (match g_best K T p n with | none => true | some z => decide (¬ g_score K T p n ≤ g_score K T p z))) = true then some n else g_best K T p n := rfl
theorem g_best_lt {K : gK} {T : gT} {p : Nat} : ∀ {n z : Nat}, g_best K T p n = some z → z < n
  | 0, z, h => by cases h
  | n + 1, z, h => by
    rw [g_best_s] at h
    generalize (g_may K T p n && (match g_best K T p n with | none => true | some z => decide (¬ g_score K T p n ≤ g_score K T p z))) = b at h
    cases b
    · exact Nat.lt_succ_of_lt (g_best_lt h)
    · cases h
      exact Nat.lt_succ_self _
theorem g_best_f {K : gK} {T : gT} {p n : Nat} (h : g_may K T p n = false) : g_best K T p (n + 1) = g_best K T p n := by rw [g_best_s, h]; rfl
theorem g_best_n {K : gK} {T : gT} {p n : Nat} (h : g_may K T p n = true) (h2 : g_best K T p n = none) : g_best K T p (n + 1) = some n := by rw [g_best_s, h, h2]; rfl
theorem g_best_g {K : gK} {T : gT} {p n z : Nat} (h : g_may K T p n = true) (h2 : g_best K T p n = some z) (h3 : ¬ g_score K T p n ≤ g_score K T p z) : g_best K T p (n + 1) = some n := by rw [g_best_s, h, h2]; simp [h3]
theorem g_best_l {K : gK} {T : gT} {p n z : Nat} (h2 : g_best K T p n = some z) (h3 : g_score K T p n ≤ g_score K T p z) : g_best K T p (n + 1) = some z := by rw [g_best_s, h2]; simp [h3]
abbrev bX11_chosen_0 : List xE := [(.iconst (-1), 1, 0, 0, 0), (.istore_n 3, 2, 0, 0, 0), (.iconst 0, 3, 0, 0, 0), (.istore 4, 5, 0, 0, 0)]
abbrev bX11_chosen_5 : List xE := [(.iload 4, 7, 0, 0, 0), (.aload_n 0, 8, 0, 0, 0), (.getfield 23, 11, 8, 12, 1), (.iconst 0, 12, 0, 0, 0), (.iaload, 13, 0, 0, 0), (.if_icmp .ge 46, 16, 0, 59, 0), (.aload_n 0, 17, 0, 0, 0), (.aload_n 1, 18, 0, 0, 0), (.iload_n 2, 19, 0, 0, 0), (.iload 4, 21, 0, 0, 0), (.invokevirtual 360, 24, 0, 0, 9), (.ifCond .eq 29, 27, 0, 53, 0), (.iload_n 3, 28, 0, 0, 0), (.iconst (-1), 29, 0, 0, 0), (.if_icmp .eq 21, 32, 0, 50, 0), (.aload_n 0, 33, 0, 0, 0), (.aload_n 1, 34, 0, 0, 0), (.iload_n 2, 35, 0, 0, 0), (.iload 4, 37, 0, 0, 0), (.invokevirtual 357, 40, 0, 1, 9), (.aload_n 0, 41, 0, 0, 0), (.aload_n 1, 42, 0, 0, 0), (.iload_n 2, 43, 0, 0, 0), (.iload_n 3, 44, 0, 0, 0), (.invokevirtual 357, 47, 0, 1, 9), (.if_icmp .le 6, 50, 0, 53, 0)]
abbrev bX11_chosen_50 : List xE := [(.iload 4, 52, 0, 0, 0), (.istore_n 3, 53, 0, 0, 0)]
abbrev bX11_chosen_53 : List xE := [(.iinc 4 1, 56, 0, 0, 0), (.goto (-51), 59, 0, 5, 0)]
abbrev bX11_chosen_59 : List xE := [(.iload_n 3, 60, 0, 0, 0), (.ireturn, 61, 0, 0, 0)]
abbrev kX11_chosen : List (Nat × List xE) := [(0, bX11_chosen_0), (5, bX11_chosen_5), (50, bX11_chosen_50), (53, bX11_chosen_53), (59, bX11_chosen_59)]
abbrev lX11_chosen : List (Nat × Nat × Nat × xS) := [(4, 0, 0, xm_this 8 S_X11_mayWork), (4, 0, 0, xm_this 8 S_X11_scoreOf)]
theorem oX11_chosen_0 {Iv : xI} (hI : xm_good Iv)  : xm_okb Iv RX11 cX11_chosen false 5 lX11_chosen bX11_chosen_0 0 := xo_0 dX11_chosen_0 rfl trivial (xo_0 dX11_chosen_1 rfl trivial (xo_0 dX11_chosen_2 rfl trivial (xo_0 dX11_chosen_3 rfl trivial (xo_n))))
theorem oX11_chosen_5 {Iv : xI} (hI : xm_good Iv)  : xm_okb Iv RX11 cX11_chosen false 5 lX11_chosen bX11_chosen_5 5 := xo_0 dX11_chosen_5 rfl trivial (xo_0 dX11_chosen_7 rfl trivial (xo_1 dX11_chosen_8 rfl (xm_fg_of (Or.inl q1967) (by decide) rfl (by decide) rfl rfl (Or.inl rfl) rfl) (xo_0 dX11_chosen_11 rfl trivial (xo_0 dX11_chosen_12 rfl trivial (xo_0 dX11_chosen_13 rfl rfl (xo_0 dX11_chosen_16 rfl trivial (xo_0 dX11_chosen_17 rfl trivial (xo_0 dX11_chosen_18 rfl trivial (xo_0 dX11_chosen_19 rfl trivial (xo_c rfl (cv_X11_mayWork hI dX11_chosen_21 (Or.inl q2366) (by decide)) (xo_0 dX11_chosen_24 rfl rfl (xo_0 dX11_chosen_27 rfl trivial (xo_0 dX11_chosen_28 rfl trivial (xo_0 dX11_chosen_29 rfl rfl (xo_0 dX11_chosen_32 rfl trivial (xo_0 dX11_chosen_33 rfl trivial (xo_0 dX11_chosen_34 rfl trivial (xo_0 dX11_chosen_35 rfl trivial (xo_c rfl (cv_X11_scoreOf hI dX11_chosen_37 (Or.inl q2343) (by decide)) (xo_0 dX11_chosen_40 rfl trivial (xo_0 dX11_chosen_41 rfl trivial (xo_0 dX11_chosen_42 rfl trivial (xo_0 dX11_chosen_43 rfl trivial (xo_c rfl (cv_X11_scoreOf hI dX11_chosen_44 (Or.inl q2343) (by decide)) (xo_0 dX11_chosen_47 rfl rfl (xo_n))))))))))))))))))))))))))
theorem oX11_chosen_50 {Iv : xI} (hI : xm_good Iv)  : xm_okb Iv RX11 cX11_chosen false 5 lX11_chosen bX11_chosen_50 50 := xo_0 dX11_chosen_50 rfl trivial (xo_0 dX11_chosen_52 rfl trivial (xo_n))
theorem oX11_chosen_53 {Iv : xI} (hI : xm_good Iv)  : xm_okb Iv RX11 cX11_chosen false 5 lX11_chosen bX11_chosen_53 53 := xo_0 dX11_chosen_53 rfl trivial (xo_0 dX11_chosen_56 rfl rfl (xo_n))
theorem oX11_chosen_59 {Iv : xI} (hI : xm_good Iv)  : xm_okb Iv RX11 cX11_chosen false 5 lX11_chosen bX11_chosen_59 59 := xo_0 dX11_chosen_59 rfl trivial (xo_0 dX11_chosen_60 rfl trivial (xo_n))
theorem oX11_chosen {Iv : xI} (hI : xm_good Iv)  : ∀ q ∈ kX11_chosen, xm_okb Iv RX11 cX11_chosen false 5 lX11_chosen q.2 q.1 := by
  intro q hq
  simp only [List.mem_cons, List.not_mem_nil, or_false] at hq
  rcases hq with rfl | rfl | rfl | rfl | rfl
  · exact oX11_chosen_0 hI  
  · exact oX11_chosen_5 hI  
  · exact oX11_chosen_50 hI  
  · exact oX11_chosen_53 hI  
  · exact oX11_chosen_59 hI  
def S_X11_chosen : xS := tU fun as I Q => ∃ row p, as = [.ref 0, .ref row, .int (nI p)] ∧ t_row row ∧ t_ok I ∧ t_lok I ∧ p < t_p I ∧ ∀ J, t_sc 34 I J → Q (some (.int (t_o (g_chosen (tK I) (tA I row) p)))) J
theorem body_X11_chosen : xm_Body 5 0 0 0 [] lX11_chosen kX11_chosen S_X11_chosen := by
  intro X avs w Q QX hX0 hS
  have hG := xm_go [] hX0
  have hX := xm_go [5] hX0
  clear hX0
  obtain ⟨I, rfl, row, p, rfl, hr, hok, hl, hp, hQ⟩ := hS
  obtain ⟨hn, h9, -⟩ := id hok
  have hr4 := t_row34 hr
  have loop : ∀ k, k ≤ t_h I → ∀ J, t_sc 34 I J → X 5 [some (.ref 0), some (.ref row), some (.int (nI p)), some (.int (t_o (g_best (tK I) (tA I row) p k))), some (.int (nI k))] [] (tW J) 0 0 := by
    refine t_for fun k h1 ih J hJ => ?_
    have hokJ := hJ.ok t_r34 hok
    have hlJ := hJ.lok t_r34 hl
    have eh : t_h J = t_h I := t_h_eq (hJ.fx t_r34 12 (Or.inl rfl))
    have ep : t_p J = t_p I := t_p_eq (hJ.fx t_r34 12 (Or.inl rfl))
    have hn' : J 12 0 = nI (t_h I) := by rw [hJ.fx t_r34 12 (Or.inl rfl)]; exact hn
    have eK := hJ.K t_r34 hok hl
    have eA := hJ.A hr hr4
    have hpJ : p < t_p J := by rw [ep]; exact hp
    refine hG _ _ _ _ _ _ ?_
    (conv => whnf)
    repeat' (first
      | ((with_reducible refine @And.intro (vp_in _ _) _ ?_ ?_); (· (first | with_reducible assumption | ((with_reducible refine t_vin ?_); decide) | ((with_reducible refine vp_in_nI ?_ ?_) <;> first | omega | decide) | (simp (disch := omega) only [xl_n, xl_m, nI_dec, nI_sb, nI_add, pk_mul]; (with_reducible refine vp_in_nI ?_ ?_) <;> first | omega | decide))); (conv => whnf))
      | (refine And.intro (by first | with_reducible assumption | exact (show tL _ = _ from rfl) | decide) ?_; (conv => whnf))
      | ((with_reducible refine @And.intro (_ = _) _ ?_ ?_); (· rfl); (conv => whnf))
      | ((with_reducible refine @And.intro (@LE.le Nat _ _ _) _ ?_ ?_); (· (first | exact Nat.zero_le _ | exact Nat.le_of_ble_eq_true rfl | omega)); (conv => whnf))
      | ((with_reducible refine @And.intro (@LT.lt Nat _ _ _) _ ?_ ?_); (· omega); (conv => whnf))
      | ((with_reducible refine @And.intro (∃ _, _ = _) _ ?_ ?_); (· exact ⟨_, rfl⟩); (conv => whnf))
      | ((with_reducible refine @And.intro (_ ∨ _) _ ?_ ?_); (· (first | exact Or.inl rfl | exact Or.inr rfl | exact t_b01 _ | assumption)); (conv => whnf))
      | ((with_reducible refine @And.intro (¬ (_ = _)) _ ?_ ?_); (· first | assumption | (with_reducible assumption)); (conv => whnf))
      | (refine hX _ _ _ _ _ _ ?_; (conv => whnf); fail_if_success show False)
      | (rw [t_si]; (conv => whnf))
      | (refine ⟨_, rfl, ?_⟩; (conv => whnf))
      | (refine ⟨_, _, rfl, ?_⟩; (conv => whnf))
      | (refine ⟨_, _, _, rfl, ?_⟩; (conv => whnf))
      | (refine ⟨_, _, _, _, rfl, ?_⟩; (conv => whnf))
      | fail)
    refine And.intro (fun c => ?_) (fun c => ?_) <;> (conv => whnf)
    · repeat' (first
        | ((with_reducible refine @And.intro (vp_in _ _) _ ?_ ?_); (· (first | with_reducible assumption | ((with_reducible refine t_vin ?_); decide) | ((with_reducible refine vp_in_nI ?_ ?_) <;> first | omega | decide) | (simp (disch := omega) only [xl_n, xl_m, nI_dec, nI_sb, nI_add, pk_mul]; (with_reducible refine vp_in_nI ?_ ?_) <;> first | omega | decide))); (conv => whnf))
        | (refine And.intro (by first | with_reducible assumption | exact (show tL _ = _ from rfl) | decide) ?_; (conv => whnf))
        | ((with_reducible refine @And.intro (_ = _) _ ?_ ?_); (· rfl); (conv => whnf))
        | ((with_reducible refine @And.intro (@LE.le Nat _ _ _) _ ?_ ?_); (· (first | exact Nat.zero_le _ | exact Nat.le_of_ble_eq_true rfl | omega)); (conv => whnf))
        | ((with_reducible refine @And.intro (@LT.lt Nat _ _ _) _ ?_ ?_); (· omega); (conv => whnf))
        | ((with_reducible refine @And.intro (∃ _, _ = _) _ ?_ ?_); (· exact ⟨_, rfl⟩); (conv => whnf))
        | ((with_reducible refine @And.intro (_ ∨ _) _ ?_ ?_); (· (first | exact Or.inl rfl | exact Or.inr rfl | exact t_b01 _ | assumption)); (conv => whnf))
        | ((with_reducible refine @And.intro (¬ (_ = _)) _ ?_ ?_); (· first | assumption | (with_reducible assumption)); (conv => whnf))
        | (refine hX _ _ _ _ _ _ ?_; (conv => whnf); fail_if_success show False)
        | (rw [t_si]; (conv => whnf))
        | (refine ⟨_, rfl, ?_⟩; (conv => whnf))
        | (refine ⟨_, _, rfl, ?_⟩; (conv => whnf))
        | (refine ⟨_, _, _, rfl, ?_⟩; (conv => whnf))
        | (refine ⟨_, _, _, _, rfl, ?_⟩; (conv => whnf))
        | fail)
      have : k = t_h I := Nat.le_antisymm h1 (t_kge hn' c (by omega) (by omega))
      subst this
      exact hQ J hJ
    · have hk : k < t_h I := t_klt hn' c (by omega)
      have hkJ : k < t_h J := by rw [eh]; exact hk
      rcases hb : g_best (tK I) (tA I row) p k with _ | z
      · repeat' (first
          | ((with_reducible refine @And.intro (vp_in _ _) _ ?_ ?_); (· (first | with_reducible assumption | ((with_reducible refine t_vin ?_); decide) | ((with_reducible refine vp_in_nI ?_ ?_) <;> first | omega | decide) | (simp (disch := omega) only [xl_n, xl_m, nI_dec, nI_sb, nI_add, pk_mul]; (with_reducible refine vp_in_nI ?_ ?_) <;> first | omega | decide))); (conv => whnf))
          | (refine And.intro (by first | with_reducible assumption | exact (show tL _ = _ from rfl) | decide) ?_; (conv => whnf))
          | ((with_reducible refine @And.intro (_ = _) _ ?_ ?_); (· rfl); (conv => whnf))
          | ((with_reducible refine @And.intro (@LE.le Nat _ _ _) _ ?_ ?_); (· (first | exact Nat.zero_le _ | exact Nat.le_of_ble_eq_true rfl | omega)); (conv => whnf))
          | ((with_reducible refine @And.intro (@LT.lt Nat _ _ _) _ ?_ ?_); (· omega); (conv => whnf))
          | ((with_reducible refine @And.intro (∃ _, _ = _) _ ?_ ?_); (· exact ⟨_, rfl⟩); (conv => whnf))
          | ((with_reducible refine @And.intro (_ ∨ _) _ ?_ ?_); (· (first | exact Or.inl rfl | exact Or.inr rfl | exact t_b01 _ | assumption)); (conv => whnf))
          | ((with_reducible refine @And.intro (¬ (_ = _)) _ ?_ ?_); (· first | assumption | (with_reducible assumption)); (conv => whnf))
          | (refine hX _ _ _ _ _ _ ?_; (conv => whnf); fail_if_success show False)
          | (rw [t_si]; (conv => whnf))
          | (refine ⟨_, rfl, ?_⟩; (conv => whnf))
          | (refine ⟨_, _, rfl, ?_⟩; (conv => whnf))
          | (refine ⟨_, _, _, rfl, ?_⟩; (conv => whnf))
          | (refine ⟨_, _, _, _, rfl, ?_⟩; (conv => whnf))
          | (refine And.intro (fun c => ?_) (fun c => ?_) <;> (first | (exact absurd c (by decide +kernel)) | (conv => whnf)))
          | fail)
        · have := ih (k + 1) (by omega) (by omega) J hJ
          simp (disch := omega) only [xl_n, xl_m, nI_dec, nI_sb, xl_0, xl_1, tW_i, t_bn0, t_bn1, Classical.not_not, t_lt, nI_add, nI_1, pk_mul, nI_clamp, t_si, nI_eq, nI_leI, nM_ne, nM_ne, xm_set, xm_lv0, xm_psh, eK, eA] at *
          rw [g_best_f (by simpa using c), hb] at this
          exact this
        · have := ih (k + 1) (by omega) (by omega) J hJ
          simp (disch := omega) only [xl_n, xl_m, nI_dec, nI_sb, xl_0, xl_1, tW_i, t_bn0, t_bn1, Classical.not_not, t_lt, nI_add, nI_1, pk_mul, nI_clamp, t_si, nI_eq, nI_leI, nM_ne, nM_ne, xm_set, xm_lv0, xm_psh, eK, eA] at *
          rw [g_best_n (by simpa using (by assumption : ¬ g_may (tK I) (tA I row) p k = false)) hb] at this
          exact this
      · have hz := g_best_lt hb
        have hzJ : z < t_h J := by omega
        repeat' (first
          | ((with_reducible refine @And.intro (vp_in _ _) _ ?_ ?_); (· (first | with_reducible assumption | ((with_reducible refine t_vin ?_); decide) | ((with_reducible refine vp_in_nI ?_ ?_) <;> first | omega | decide) | (simp (disch := omega) only [xl_n, xl_m, nI_dec, nI_sb, nI_add, pk_mul]; (with_reducible refine vp_in_nI ?_ ?_) <;> first | omega | decide))); (conv => whnf))
          | (refine And.intro (by first | with_reducible assumption | exact (show tL _ = _ from rfl) | decide) ?_; (conv => whnf))
          | ((with_reducible refine @And.intro (_ = _) _ ?_ ?_); (· rfl); (conv => whnf))
          | ((with_reducible refine @And.intro (@LE.le Nat _ _ _) _ ?_ ?_); (· (first | exact Nat.zero_le _ | exact Nat.le_of_ble_eq_true rfl | omega)); (conv => whnf))
          | ((with_reducible refine @And.intro (@LT.lt Nat _ _ _) _ ?_ ?_); (· omega); (conv => whnf))
          | ((with_reducible refine @And.intro (∃ _, _ = _) _ ?_ ?_); (· exact ⟨_, rfl⟩); (conv => whnf))
          | ((with_reducible refine @And.intro (_ ∨ _) _ ?_ ?_); (· (first | exact Or.inl rfl | exact Or.inr rfl | exact t_b01 _ | assumption)); (conv => whnf))
          | ((with_reducible refine @And.intro (¬ (_ = _)) _ ?_ ?_); (· first | assumption | (with_reducible assumption)); (conv => whnf))
          | (refine hX _ _ _ _ _ _ ?_; (conv => whnf); fail_if_success show False)
          | (rw [t_si]; (conv => whnf))
          | (refine ⟨_, rfl, ?_⟩; (conv => whnf))
          | (refine ⟨_, _, rfl, ?_⟩; (conv => whnf))
          | (refine ⟨_, _, _, rfl, ?_⟩; (conv => whnf))
          | (refine ⟨_, _, _, _, rfl, ?_⟩; (conv => whnf))
          | (refine And.intro (fun c => ?_) (fun c => ?_) <;> (first | (exact absurd c (by decide +kernel)) | (conv => whnf)))
          | fail)
        · have := ih (k + 1) (by omega) (by omega) J hJ
          simp (disch := omega) only [xl_n, xl_m, nI_dec, nI_sb, xl_0, xl_1, tW_i, t_bn0, t_bn1, Classical.not_not, t_lt, nI_add, nI_1, pk_mul, nI_clamp, t_si, nI_eq, nI_leI, nM_ne, nM_ne, xm_set, xm_lv0, xm_psh, eK, eA] at *
          rw [g_best_f (by simpa using c), hb] at this
          exact this
        · exfalso
          clear hX hG ih
          simp (disch := omega) only [xl_n, xl_m, nI_dec, nI_sb, xl_0, xl_1, tW_i, t_bn0, t_bn1, Classical.not_not, t_lt, nI_add, nI_1, pk_mul, nI_clamp, t_si, nI_eq, nI_leI, nM_ne, nM_ne] at *
          exact nM_ne (show z < 2 ^ 31 by omega) c
        · intro L hL
          (conv => whnf)
          have hlL := hL.lok t_r34 hlJ
          have hokL := hL.ok t_r34 hokJ
          have ehL : t_h L = t_h J := t_h_eq (hL.fx t_r34 12 (Or.inl rfl))
          have epL : t_p L = t_p J := t_p_eq (hL.fx t_r34 12 (Or.inl rfl))
          have hzL : z < t_h L := by omega
          have hpL : p < t_p L := by omega
          have eKL := hL.K t_r34 hokJ hlJ
          have eAL := hL.A hr hr4
          repeat' (first
            | ((with_reducible refine @And.intro (vp_in _ _) _ ?_ ?_); (· (first | with_reducible assumption | ((with_reducible refine t_vin ?_); decide) | ((with_reducible refine vp_in_nI ?_ ?_) <;> first | omega | decide) | (simp (disch := omega) only [xl_n, xl_m, nI_dec, nI_sb, nI_add, pk_mul]; (with_reducible refine vp_in_nI ?_ ?_) <;> first | omega | decide))); (conv => whnf))
            | (refine And.intro (by first | with_reducible assumption | exact (show tL _ = _ from rfl) | decide) ?_; (conv => whnf))
            | ((with_reducible refine @And.intro (_ = _) _ ?_ ?_); (· rfl); (conv => whnf))
            | ((with_reducible refine @And.intro (@LE.le Nat _ _ _) _ ?_ ?_); (· (first | exact Nat.zero_le _ | exact Nat.le_of_ble_eq_true rfl | omega)); (conv => whnf))
            | ((with_reducible refine @And.intro (@LT.lt Nat _ _ _) _ ?_ ?_); (· omega); (conv => whnf))
            | ((with_reducible refine @And.intro (∃ _, _ = _) _ ?_ ?_); (· exact ⟨_, rfl⟩); (conv => whnf))
            | ((with_reducible refine @And.intro (_ ∨ _) _ ?_ ?_); (· (first | exact Or.inl rfl | exact Or.inr rfl | exact t_b01 _ | assumption)); (conv => whnf))
            | ((with_reducible refine @And.intro (¬ (_ = _)) _ ?_ ?_); (· first | assumption | (with_reducible assumption)); (conv => whnf))
            | (refine hX _ _ _ _ _ _ ?_; (conv => whnf); fail_if_success show False)
            | (rw [t_si]; (conv => whnf))
            | (refine ⟨_, rfl, ?_⟩; (conv => whnf))
            | (refine ⟨_, _, rfl, ?_⟩; (conv => whnf))
            | (refine ⟨_, _, _, rfl, ?_⟩; (conv => whnf))
            | (refine ⟨_, _, _, _, rfl, ?_⟩; (conv => whnf))
            | (refine And.intro (fun c => ?_) (fun c => ?_) <;> (first | (exact absurd c (by decide +kernel)) | (conv => whnf)))
            | fail)
          intro M hM
          (conv => whnf)
          have hJM := (hJ.tr hL).tr hM
          repeat' (first
            | ((with_reducible refine @And.intro (vp_in _ _) _ ?_ ?_); (· (first | with_reducible assumption | ((with_reducible refine t_vin ?_); decide) | ((with_reducible refine vp_in_nI ?_ ?_) <;> first | omega | decide) | (simp (disch := omega) only [xl_n, xl_m, nI_dec, nI_sb, nI_add, pk_mul]; (with_reducible refine vp_in_nI ?_ ?_) <;> first | omega | decide))); (conv => whnf))
            | (refine And.intro (by first | with_reducible assumption | exact (show tL _ = _ from rfl) | decide) ?_; (conv => whnf))
            | ((with_reducible refine @And.intro (_ = _) _ ?_ ?_); (· rfl); (conv => whnf))
            | ((with_reducible refine @And.intro (@LE.le Nat _ _ _) _ ?_ ?_); (· (first | exact Nat.zero_le _ | exact Nat.le_of_ble_eq_true rfl | omega)); (conv => whnf))
            | ((with_reducible refine @And.intro (@LT.lt Nat _ _ _) _ ?_ ?_); (· omega); (conv => whnf))
            | ((with_reducible refine @And.intro (∃ _, _ = _) _ ?_ ?_); (· exact ⟨_, rfl⟩); (conv => whnf))
            | ((with_reducible refine @And.intro (_ ∨ _) _ ?_ ?_); (· (first | exact Or.inl rfl | exact Or.inr rfl | exact t_b01 _ | assumption)); (conv => whnf))
            | ((with_reducible refine @And.intro (¬ (_ = _)) _ ?_ ?_); (· first | assumption | (with_reducible assumption)); (conv => whnf))
            | (refine hX _ _ _ _ _ _ ?_; (conv => whnf); fail_if_success show False)
            | (rw [t_si]; (conv => whnf))
            | (refine ⟨_, rfl, ?_⟩; (conv => whnf))
            | (refine ⟨_, _, rfl, ?_⟩; (conv => whnf))
            | (refine ⟨_, _, _, rfl, ?_⟩; (conv => whnf))
            | (refine ⟨_, _, _, _, rfl, ?_⟩; (conv => whnf))
            | (refine And.intro (fun c => ?_) (fun c => ?_) <;> (first | (exact absurd c (by decide +kernel)) | (conv => whnf)))
            | fail)
          · have := ih (k + 1) (by omega) (by omega) M hJM
            simp (disch := omega) only [xl_n, xl_m, nI_dec, nI_sb, xl_0, xl_1, tW_i, t_bn0, t_bn1, Classical.not_not, t_lt, nI_add, nI_1, pk_mul, nI_clamp, t_si, nI_eq, nI_leI, nM_ne, nM_ne, xm_set, xm_lv0, xm_psh, eK, eA, eKL, eAL] at *
            rw [g_best_l hb c] at this
            exact this
          · have := ih (k + 1) (by omega) (by omega) M hJM
            simp (disch := omega) only [xl_n, xl_m, nI_dec, nI_sb, xl_0, xl_1, tW_i, t_bn0, t_bn1, Classical.not_not, t_lt, nI_add, nI_1, pk_mul, nI_clamp, t_si, nI_eq, nI_leI, nM_ne, nM_ne, xm_set, xm_lv0, xm_psh, eK, eA, eKL, eAL] at *
            rw [g_best_g (by simpa using (by assumption : ¬ g_may (tK I) (tA I row) p k = false)) hb c] at this
            exact this
  refine ⟨rfl, ?_⟩
  repeat' (first
    | ((with_reducible refine @And.intro (vp_in _ _) _ ?_ ?_); (· (first | with_reducible assumption | ((with_reducible refine t_vin ?_); decide) | ((with_reducible refine vp_in_nI ?_ ?_) <;> first | omega | decide) | (simp (disch := omega) only [xl_n, xl_m, nI_dec, nI_sb, nI_add, pk_mul]; (with_reducible refine vp_in_nI ?_ ?_) <;> first | omega | decide))); (conv => whnf))
    | (refine And.intro (by first | with_reducible assumption | exact (show tL _ = _ from rfl) | decide) ?_; (conv => whnf))
    | ((with_reducible refine @And.intro (_ = _) _ ?_ ?_); (· rfl); (conv => whnf))
    | ((with_reducible refine @And.intro (@LE.le Nat _ _ _) _ ?_ ?_); (· (first | exact Nat.zero_le _ | exact Nat.le_of_ble_eq_true rfl | omega)); (conv => whnf))
    | ((with_reducible refine @And.intro (@LT.lt Nat _ _ _) _ ?_ ?_); (· omega); (conv => whnf))
    | ((with_reducible refine @And.intro (∃ _, _ = _) _ ?_ ?_); (· exact ⟨_, rfl⟩); (conv => whnf))
    | ((with_reducible refine @And.intro (_ ∨ _) _ ?_ ?_); (· (first | exact Or.inl rfl | exact Or.inr rfl | exact t_b01 _ | assumption)); (conv => whnf))
    | ((with_reducible refine @And.intro (¬ (_ = _)) _ ?_ ?_); (· first | assumption | (with_reducible assumption)); (conv => whnf))
    | (refine hX _ _ _ _ _ _ ?_; (conv => whnf); fail_if_success show False)
    | (rw [t_si]; (conv => whnf))
    | (refine ⟨_, rfl, ?_⟩; (conv => whnf))
    | (refine ⟨_, _, rfl, ?_⟩; (conv => whnf))
    | (refine ⟨_, _, _, rfl, ?_⟩; (conv => whnf))
    | (refine ⟨_, _, _, _, rfl, ?_⟩; (conv => whnf))
    | (refine And.intro (fun c => ?_) (fun c => ?_) <;> (first | (exact absurd c (by decide +kernel)) | (conv => whnf)))
    | fail)
  exact loop 0 (Nat.zero_le _) I t_sc.rf
theorem ct_X11_chosen {Iv : xI} (hI : xm_good Iv) : xm_Ct Iv yX11_chosen (ws_ yX11_chosen cX11_chosen 5 (some .int)) 5 0 0 S_X11_chosen := xm_enter (rt := 0) (init := false) (by decide +kernel) rfl (fun h => by cases h) (Or.inl ⟨rfl, rfl⟩) (oX11_chosen hI) body_X11_chosen
theorem cv_X11_chosen {Iv : xI} {own : String} {cc : ByteArray} {fr pc idx : Nat} (hI : xm_good Iv) (hdg : decode cc pc = .ok (.invokevirtual idx, 3)) (hl : xm_ml own idx yX11_chosen) (hfr : 5 < fr) : xm_CallOK Iv own cc fr pc (pc + 3) 3 0 0 (xm_this 8 S_X11_chosen) := xm_callV 8 hI (ct_X11_chosen hI) hdg hl q2364 qs94 q145 q2365 rfl rfl (by decide +kernel) hfr (by decide)
