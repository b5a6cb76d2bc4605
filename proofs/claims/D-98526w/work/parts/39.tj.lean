/-! ===== the reference: years gone on, tried, undone ===== -/
set_option maxRecDepth 100000
/-- all but now, base and gone stays -/
def t_sm (I J : tI) : Prop := (∀ b, b ≠ 0 → ¬ t_free b → b ≠ 36 → b ≠ 37 → J b = I b) ∧ ∀ k, k ≠ 0 → ¬ t_scf k → k ≠ 44 → k ≠ 42 → J 0 k = I 0 k
theorem t_sp.sm {I J : tI} (h : t_sp I J) : t_sm I J := ⟨fun b a c _ _ => h.1 b a c, fun k a b c _ => h.2 k a b c⟩
theorem t_sm.rf {I : tI} : t_sm I I := t_sp.rf.sm
theorem t_sm.tr {I J L : tI} (h : t_sm I J) (h2 : t_sm J L) : t_sm I L := ⟨fun b a c d e => (h2.1 b a c d e).trans (h.1 b a c d e), fun k a b c d => (h2.2 k a b c d).trans (h.2 k a b c d)⟩
theorem t_sl.sm {r : Nat} {I J : tI} (h : t_sl r I J) (hr : r = 36 ∨ r = 37 ∨ t_free r) : t_sm I J := ⟨fun b hb hf h1 h2 => h.1 b (fun e => by
  rcases hr with q | q | q
  · exact h1 (e.trans q)
  · exact h2 (e.trans q)
  · exact hf (e ▸ q)) hb (fun q => hf (Or.inl q)), fun k _ a b _ => h.2 k a b⟩
theorem t_sm.g {I : tI} {v : Int32} : t_sm I (xm_u2 I 0 42 v) := ⟨fun b hb _ _ _ => funext fun j => xm_u2_ne hb j, fun k _ _ _ hk => by rw [xm_u2_at, if_neg hk]⟩
theorem t_sm.same {I J : tI} (h : t_sm I J) : t_same I J := by
  refine ⟨fun b hb => h.1 b (by omega) (t_nf (by omega)) (by omega) (by omega), h.2 27 (by omega) (by unfold t_scf; omega) (by omega) (by omega), h.2 41 (by omega) (by unfold t_scf; omega) (by omega) (by omega), h.2 45 (by omega) (by unfold t_scf; omega) (by omega) (by omega)⟩
theorem t_sm.G {I J : tI} (h : t_sm I J) (hg : t_good I) : tG J = g_setN (tG I) fun n => (n.1, tA J 36, tA J 37, J 0 42, n.2.2.2.2) := by
  have f : ∀ k, k ≠ 0 → k < 44 → k ≠ 42 → J 0 k = I 0 k := fun k hk q q2 => h.2 k hk (by unfold t_scf; omega) (by omega) q2
  have ei : t_im J = t_im I := by unfold t_im; rw [f 43 (by omega) (by omega) (by omega)]
  have el : t_l J = t_l I := by unfold t_l; rw [f 41 (by omega) (by omega) (by omega)]
  have et : t_tp J = t_tp I := by unfold t_tp; rw [f 1 (by omega) (by omega) (by omega)]
  have a : ∀ r, (r = 38 ∨ 639 < r) → tA J r = tA I r := fun r hr => tA_eq fun k _ => by rw [h.1 r (by omega) (t_nf (by omega)) (by omega) (by omega)]
  have b : ∀ r, (r = 9 ∨ r = 10 ∨ 599 < r) → J r = I r := fun r hr => h.1 r (by omega) (t_nf (by omega)) (by omega) (by omega)
  unfold tG g_setN
  rw [h.same.K hg, h.same.X hg]
  unfold tN
  rw [ei, el, et, a 38 (by omega), f 3 (by omega) (by omega) (by omega), b 9 (by omega), b 10 (by omega)]
  have e1' : ∀ k, tA J (640 + k) = tA I (640 + k) := fun k => a _ (by omega)
  have e2' : ∀ k, J (600 + k) = I (600 + k) := fun k => b _ (by omega)
  simp only [e1', e2']
theorem t_sm.good {I J : tI} (h : t_sm I J) (hg : t_good I) : t_good J := by
  have f : ∀ k, k ≠ 0 → k < 44 → k ≠ 42 → J 0 k = I 0 k := fun k hk q q2 => h.2 k hk (by unfold t_scf; omega) (by omega) q2
  refine h.same.good hg ?_ ?_
  · have : t_im J = t_im I := by unfold t_im; rw [f 43 (by omega) (by omega) (by omega)]
    rw [this, f 43 (by omega) (by omega) (by omega)]
    exact hg.2.2.2.2.1
  · have : t_tp J = t_tp I := by unfold t_tp; rw [f 1 (by omega) (by omega) (by omega)]
    rw [this, f 1 (by omega) (by omega) (by omega)]
    exact hg.2.2.2.2.2.1
theorem t_sm.now {I J : tI} (h : t_sm I J) (hg : t_good I) (hb : tA J 37 = tA I 37) : tG J = g_now (tG I) (tA J 36) (J 0 42) := by
  rw [h.G hg, hb]
  rfl
theorem t_sm.set {I J : tI} (h : t_sm I J) (hg : t_good I) (hb : tA J 37 = tA J 36) (h0 : J 0 42 = nI 0) : tG J = g_set (tG I) (tA J 36) := by
  rw [h.G hg, hb, h0]
  rfl
/-- a year without lots -/
theorem t_go {r : Nat} {J L : tI} (h45 : J 0 45 = nI 0) (h : g_goesL (tK J) (J 0 45) (J 0 44, tA J r) = (L 0 44, tA L r)) : tA L r = g_goes (tK J) (tA J r) := by
  rw [h45, g_goesL_0] at h
  exact (congrArg Prod.snd h).symm
def g_gos (K : gK) (n : Nat) (T : gT) : gT := t_fold n (fun _ T => g_goes K T) T
theorem g_gos_s {K : gK} {n : Nat} {T : gT} : g_gos K (n + 1) T = g_goes K (g_gos K n T) := rfl
def g_until (K : gK) (P : gT → Bool) : Nat → gT → Int32
  | 0, _ => nM
  | n + 1, T => if P (g_goes K T) = true then gy (g_goes K T) else g_until K P n (g_goes K T)
/-- a row's trial: what is good stays -/
theorem t_try {I J L : tI} (hg : t_good I) (h : t_sp I J) (hL : t_sl 39 J L) (hE : g_goesL (tK J) (J 0 45) (J 0 44, tA J 39) = (L 0 44, tA L 39)) : t_sp I L ∧ L 0 0 = J 0 0 ∧ tA L 39 = g_goes (tK I) (tA J 39) := by
  refine ⟨h.tr (hL.sp t_f39), hL.2 0 (by unfold t_scf; omega) (by decide), ?_⟩
  rw [t_go ((h.good hg).2.2.1) hE, h.same.K hg]
theorem t_copy {I L : tI} {r q : Nat} (h : t_off q I L) (hk : ∀ k, k < 107 → L q k = I r k) : tA L q = tA I r := tA_eq hk
def q_ahead (G : gG) (a n : Int32) : gR := g_ck G (g_isP G a) (nI 1) 0 (g_ck G (t_in n (nI 0) (nI 60)) (nI 2) 1 (g_says G (gw (g_gos (gGK G) n.toNatClampNeg (gnow G)) a.toNatClampNeg)))
abbrev bX11_ahead_0 : List xE := [(.aload_n 0, 1, 0, 0, 0), (.iconst 0, 2, 0, 0, 0), (.putfield 134, 5, 8, 0, 0), (.aload_n 0, 6, 0, 0, 0), (.aload_n 0, 7, 0, 0, 0), (.iload_n 1, 8, 0, 0, 0), (.invokevirtual 338, 11, 0, 0, 9), (.ifCond .ne 7, 14, 0, 18, 0), (.iconst 1, 15, 0, 0, 0), (.goto 4, 18, 0, 19, 0)]
abbrev bX11_ahead_18 : List xE := [(.iconst 0, 19, 0, 0, 0)]
abbrev bX11_ahead_19 : List xE := [(.iconst 1, 20, 0, 0, 0), (.iconst 0, 21, 0, 0, 0), (.invokevirtual 249, 24, 0, 1, 9), (.ifCond .ne 27, 27, 0, 51, 0), (.aload_n 0, 28, 0, 0, 0), (.iload_n 2, 29, 0, 0, 0), (.iconst 0, 30, 0, 0, 0), (.bipush 60, 32, 0, 0, 0), (.invokestatic 168, 35, 0, 2, 9), (.ifCond .ne 7, 38, 0, 42, 0), (.iconst 1, 39, 0, 0, 0), (.goto 4, 42, 0, 43, 0)]
abbrev bX11_ahead_42 : List xE := [(.iconst 0, 43, 0, 0, 0)]
abbrev bX11_ahead_43 : List xE := [(.iconst 2, 44, 0, 0, 0), (.iconst 1, 45, 0, 0, 0), (.invokevirtual 249, 48, 0, 1, 9), (.ifCond .eq 5, 51, 0, 53, 0)]
abbrev bX11_ahead_51 : List xE := [(.iconst 0, 52, 0, 0, 0), (.ireturn, 53, 0, 0, 0)]
abbrev bX11_ahead_53 : List xE := [(.aload_n 0, 54, 0, 0, 0), (.getfield 91, 57, 8, 36, 1), (.aload_n 0, 58, 0, 0, 0), (.getfield 100, 61, 8, 39, 1), (.invokestatic 266, 64, 0, 3, 9), (.iconst 0, 65, 0, 0, 0), (.istore_n 3, 66, 0, 0, 0)]
abbrev bX11_ahead_66 : List xE := [(.iload_n 3, 67, 0, 0, 0), (.iload_n 2, 68, 0, 0, 0), (.if_icmp .ge 17, 71, 0, 85, 0), (.aload_n 0, 72, 0, 0, 0), (.aload_n 0, 73, 0, 0, 0), (.getfield 100, 76, 8, 39, 1), (.invokevirtual 385, 79, 0, 4, 9), (.iinc 3 1, 82, 0, 0, 0), (.goto (-16), 85, 0, 66, 0)]
abbrev bX11_ahead_85 : List xE := [(.aload_n 0, 86, 0, 0, 0), (.getfield 100, 89, 8, 39, 1), (.iconst 1, 90, 0, 0, 0), (.iload_n 1, 91, 0, 0, 0), (.iadd, 92, 0, 0, 0), (.iaload, 93, 0, 0, 0), (.ireturn, 94, 0, 0, 0)]
abbrev kX11_ahead : List (Nat × List xE) := [(0, bX11_ahead_0), (18, bX11_ahead_18), (19, bX11_ahead_19), (42, bX11_ahead_42), (43, bX11_ahead_43), (51, bX11_ahead_51), (53, bX11_ahead_53), (66, bX11_ahead_66), (85, bX11_ahead_85)]
abbrev lX11_ahead : List (Nat × Nat × Nat × xS) := [(2, 0, 0, xm_this 8 S_X11_isPuppet), (4, 0, 0, xm_this 8 S_X11_bad), (3, 0, 0, S_X11_in), (2, 0, 0, S_X11_copies), (2, 0, 0, xm_this 8 S_X11_goes)]
theorem oX11_ahead_0 {Iv : xI} (hI : xm_good Iv)  : xm_okb Iv RX11 cX11_ahead false 7 lX11_ahead bX11_ahead_0 0 := xo_0 dX11_ahead_0 rfl trivial (xo_0 dX11_ahead_1 rfl trivial (xo_0 dX11_ahead_2 rfl (xm_fp_of (xm_fg_of (Or.inl q1955) (by decide) rfl (by decide) rfl rfl (Or.inl rfl) rfl) (by decide) rfl (Or.inl ⟨rfl, rfl⟩) rfl) (xo_0 dX11_ahead_5 rfl trivial (xo_0 dX11_ahead_6 rfl trivial (xo_0 dX11_ahead_7 rfl trivial (xo_c rfl (cv_X11_isPuppet hI dX11_ahead_8 (Or.inl q2319) (by decide)) (xo_0 dX11_ahead_11 rfl rfl (xo_0 dX11_ahead_14 rfl trivial (xo_0 dX11_ahead_15 rfl rfl (xo_n))))))))))
theorem oX11_ahead_18 {Iv : xI} (hI : xm_good Iv)  : xm_okb Iv RX11 cX11_ahead false 7 lX11_ahead bX11_ahead_18 18 := xo_0 dX11_ahead_18 rfl trivial (xo_n)
theorem oX11_ahead_19 {Iv : xI} (hI : xm_good Iv)  : xm_okb Iv RX11 cX11_ahead false 7 lX11_ahead bX11_ahead_19 19 := xo_0 dX11_ahead_19 rfl trivial (xo_0 dX11_ahead_20 rfl trivial (xo_c rfl (cv_X11_bad hI dX11_ahead_21 (Or.inl q2137) (by decide)) (xo_0 dX11_ahead_24 rfl rfl (xo_0 dX11_ahead_27 rfl trivial (xo_0 dX11_ahead_28 rfl trivial (xo_0 dX11_ahead_29 rfl trivial (xo_0 dX11_ahead_30 rfl (xo_bipush (by decide +kernel)) (xo_c rfl (cv_X11_in hI dX11_ahead_32 (Or.inl q1942) (by decide)) (xo_0 dX11_ahead_35 rfl rfl (xo_0 dX11_ahead_38 rfl trivial (xo_0 dX11_ahead_39 rfl rfl (xo_n))))))))))))
theorem oX11_ahead_42 {Iv : xI} (hI : xm_good Iv)  : xm_okb Iv RX11 cX11_ahead false 7 lX11_ahead bX11_ahead_42 42 := xo_0 dX11_ahead_42 rfl trivial (xo_n)
theorem oX11_ahead_43 {Iv : xI} (hI : xm_good Iv)  : xm_okb Iv RX11 cX11_ahead false 7 lX11_ahead bX11_ahead_43 43 := xo_0 dX11_ahead_43 rfl trivial (xo_0 dX11_ahead_44 rfl trivial (xo_c rfl (cv_X11_bad hI dX11_ahead_45 (Or.inl q2137) (by decide)) (xo_0 dX11_ahead_48 rfl rfl (xo_n))))
theorem oX11_ahead_51 {Iv : xI} (hI : xm_good Iv)  : xm_okb Iv RX11 cX11_ahead false 7 lX11_ahead bX11_ahead_51 51 := xo_0 dX11_ahead_51 rfl trivial (xo_0 dX11_ahead_52 rfl trivial (xo_n))
theorem oX11_ahead_53 {Iv : xI} (hI : xm_good Iv)  : xm_okb Iv RX11 cX11_ahead false 7 lX11_ahead bX11_ahead_53 53 := xo_0 dX11_ahead_53 rfl trivial (xo_1 dX11_ahead_54 rfl (xm_fg_of (Or.inl q1991) (by decide) rfl (by decide) rfl rfl (Or.inl rfl) rfl) (xo_0 dX11_ahead_57 rfl trivial (xo_1 dX11_ahead_58 rfl (xm_fg_of (Or.inl q1994) (by decide) rfl (by decide) rfl rfl (Or.inl rfl) rfl) (xo_c rfl (cv_X11_copies hI dX11_ahead_61 (Or.inl q1948) (by decide)) (xo_0 dX11_ahead_64 rfl trivial (xo_0 dX11_ahead_65 rfl trivial (xo_n)))))))
theorem oX11_ahead_66 {Iv : xI} (hI : xm_good Iv)  : xm_okb Iv RX11 cX11_ahead false 7 lX11_ahead bX11_ahead_66 66 := xo_0 dX11_ahead_66 rfl trivial (xo_0 dX11_ahead_67 rfl trivial (xo_0 dX11_ahead_68 rfl rfl (xo_0 dX11_ahead_71 rfl trivial (xo_0 dX11_ahead_72 rfl trivial (xo_1 dX11_ahead_73 rfl (xm_fg_of (Or.inl q1994) (by decide) rfl (by decide) rfl rfl (Or.inl rfl) rfl) (xo_c rfl (cv_X11_goes hI dX11_ahead_76 (Or.inl q2378) (by decide)) (xo_0 dX11_ahead_79 rfl trivial (xo_0 dX11_ahead_82 rfl rfl (xo_n)))))))))
theorem oX11_ahead_85 {Iv : xI} (hI : xm_good Iv)  : xm_okb Iv RX11 cX11_ahead false 7 lX11_ahead bX11_ahead_85 85 := xo_0 dX11_ahead_85 rfl trivial (xo_1 dX11_ahead_86 rfl (xm_fg_of (Or.inl q1994) (by decide) rfl (by decide) rfl rfl (Or.inl rfl) rfl) (xo_0 dX11_ahead_89 rfl trivial (xo_0 dX11_ahead_90 rfl trivial (xo_0 dX11_ahead_91 rfl trivial (xo_0 dX11_ahead_92 rfl trivial (xo_0 dX11_ahead_93 rfl trivial (xo_n)))))))
theorem oX11_ahead {Iv : xI} (hI : xm_good Iv)  : ∀ q ∈ kX11_ahead, xm_okb Iv RX11 cX11_ahead false 7 lX11_ahead q.2 q.1 := by
  intro q hq
  simp only [List.mem_cons, List.not_mem_nil, or_false] at hq
  rcases hq with rfl | rfl | rfl | rfl | rfl | rfl | rfl | rfl | rfl
  · exact oX11_ahead_0 hI  
  · exact oX11_ahead_18 hI  
  · exact oX11_ahead_19 hI  
  · exact oX11_ahead_42 hI  
  · exact oX11_ahead_43 hI  
  · exact oX11_ahead_51 hI  
  · exact oX11_ahead_53 hI  
  · exact oX11_ahead_66 hI  
  · exact oX11_ahead_85 hI  
def S_X11_ahead : xS := tU fun as I Q => ∃ a b, as = [.ref 0, .int a, .int b] ∧ t_good I ∧ t_P Q (q_ahead (tG I) a b)
theorem body_X11_ahead : xm_Body 4 0 0 0 [] lX11_ahead kX11_ahead S_X11_ahead := by
  intro X avs w Q QX hX0 hS
  have hG := xm_go [] hX0
  have hX := xm_go [66] hX0
  clear hX0
  obtain ⟨I, rfl, a, b, rfl, hg, hQ⟩ := hS
  refine ⟨rfl, ?_⟩
  repeat' (first
    | ((with_reducible refine @And.intro (vp_in _ _) _ ?_ ?_); (· (first | with_reducible assumption | ((with_reducible refine t_vin ?_); decide) | ((with_reducible refine vp_in_nI ?_ ?_) <;> first | omega | decide) | (simp (disch := omega) only [xl_n, xl_m, nI_dec, nI_sb, nI_add, pk_mul]; (with_reducible refine vp_in_nI ?_ ?_) <;> first | omega | decide))); (conv => whnf))
    | (refine And.intro (by first | with_reducible assumption | exact (show tL _ = _ from rfl) | decide) ?_; (conv => whnf))
    | ((with_reducible refine @And.intro (_ = _) _ ?_ ?_); (· rfl); (conv => whnf))
    | ((with_reducible refine @And.intro (@LE.le Nat _ _ _) _ ?_ ?_); (· (first | exact Nat.zero_le _ | exact Nat.le_of_ble_eq_true rfl | omega)); (conv => whnf))
    | ((with_reducible refine @And.intro (@LT.lt Nat _ _ _) _ ?_ ?_); (· omega); (conv => whnf))
    | ((with_reducible refine @And.intro (∃ _, _ = _) _ ?_ ?_); (· exact ⟨_, rfl⟩); (conv => whnf))
    | ((with_reducible refine @And.intro (_ ∨ _) _ ?_ ?_); (· (first | exact Or.inl rfl | exact Or.inr rfl | exact t_b01 _ | assumption)); (conv => whnf))
    | ((with_reducible refine @And.intro (¬ (_ = _)) _ ?_ ?_); (· first | assumption | (with_reducible assumption)); (conv => whnf))
    | (refine hX _ _ _ _ _ _ ?_; (conv => whnf); fail_if_success show False)
    | fail)
  rw [t_si]
  obtain ⟨J, hJ, hg1, hG1, h01⟩ := t_pub hg
  rw [← hJ]
  rw [← hG1] at hQ
  clear hJ hG1 hg I
  have hg := hg1
  have hok := hg.1
  have hl := hg.2.1
  have h8 := hok.2.2.2.1
  have h9 := hok.2.1
  (conv => whnf)
  rcases t_pc hg a with ⟨p, hp, rfl, e1, f1⟩ | ⟨e1, f1⟩
  · rw [q_ahead, f1, g_ck_t] at hQ
    rcases t_rc b 0 60 (L := Int32.ofInt 0) (H := Int32.ofInt 60) (by decide +kernel) (by decide +kernel) (by omega) (by omega) with ⟨n, -, hn, rfl, e2, f2⟩ | ⟨e2, f2⟩
    · rw [f2, g_ck_t, nI_clamp (by omega), nI_clamp (by omega)] at hQ
      have loop : ∀ k, k ≤ n → ∀ M, t_sp J M → M 0 0 = nI 0 → tA M 39 = g_gos (tK J) k (tA J 36) → X 66 [some (.ref 0), some (.int (nI p)), some (.int (nI n)), some (.int (nI k))] [] (tW M) 0 0 := by
        refine t_for fun k h1 ih M hM h0 hA => ?_
        have hgM := hM.good hg
        have hokM := hgM.1
        have hlM := hgM.2.1
        refine hG _ _ _ _ _ _ ?_
        (conv => whnf)
        repeat' (first
          | ((with_reducible refine @And.intro (vp_in _ _) _ ?_ ?_); (· (first | with_reducible assumption | ((with_reducible refine t_vin ?_); decide) | ((with_reducible refine vp_in_nI ?_ ?_) <;> first | omega | decide) | (simp (disch := omega) only [xl_n, xl_m, nI_dec, nI_sb, nI_add, pk_mul]; (with_reducible refine vp_in_nI ?_ ?_) <;> first | omega | decide))); (conv => whnf))
          | (refine And.intro (by first | with_reducible assumption | exact (show tL _ = _ from rfl) | decide) ?_; (conv => whnf))
          | ((with_reducible refine @And.intro (_ = _) _ ?_ ?_); (· rfl); (conv => whnf))
          | ((with_reducible refine @And.intro (@LE.le Nat _ _ _) _ ?_ ?_); (· (first | exact Nat.zero_le _ | exact Nat.le_of_ble_eq_true rfl | omega)); (conv => whnf))
          | ((with_reducible refine @And.intro (@LT.lt Nat _ _ _) _ ?_ ?_); (· omega); (conv => whnf))
          | ((with_reducible refine @And.intro (∃ _, _ = _) _ ?_ ?_); (· exact ⟨_, rfl⟩); (conv => whnf))
          | ((with_reducible refine @And.intro (_ ∨ _) _ ?_ ?_); (· (first | exact Or.inl rfl | exact Or.inr rfl | exact t_b01 _ | assumption)); (conv => whnf))
          | ((with_reducible refine @And.intro (¬ (_ = _)) _ ?_ ?_); (· first | assumption | (with_reducible assumption)); (conv => whnf))
          | (refine hX _ _ _ _ _ _ ?_; (conv => whnf); fail_if_success show False)
          | (rw [t_si]; (conv => whnf))
          | (refine ⟨_, rfl, ?_⟩; (conv => whnf))
          | (refine ⟨_, _, rfl, ?_⟩; (conv => whnf))
          | (refine ⟨_, _, _, rfl, ?_⟩; (conv => whnf))
          | (refine ⟨_, _, _, _, rfl, ?_⟩; (conv => whnf))
          | fail)
        refine And.intro (fun c => ?_) (fun c => ?_) <;> (conv => whnf)
        · repeat' (first
            | ((with_reducible refine @And.intro (vp_in _ _) _ ?_ ?_); (· (first | with_reducible assumption | ((with_reducible refine t_vin ?_); decide) | ((with_reducible refine vp_in_nI ?_ ?_) <;> first | omega | decide) | (simp (disch := omega) only [xl_n, xl_m, nI_dec, nI_sb, nI_add, pk_mul]; (with_reducible refine vp_in_nI ?_ ?_) <;> first | omega | decide))); (conv => whnf))
            | (refine And.intro (by first | with_reducible assumption | exact (show tL _ = _ from rfl) | decide) ?_; (conv => whnf))
            | ((with_reducible refine @And.intro (_ = _) _ ?_ ?_); (· rfl); (conv => whnf))
            | ((with_reducible refine @And.intro (@LE.le Nat _ _ _) _ ?_ ?_); (· (first | exact Nat.zero_le _ | exact Nat.le_of_ble_eq_true rfl | omega)); (conv => whnf))
            | ((with_reducible refine @And.intro (@LT.lt Nat _ _ _) _ ?_ ?_); (· omega); (conv => whnf))
            | ((with_reducible refine @And.intro (∃ _, _ = _) _ ?_ ?_); (· exact ⟨_, rfl⟩); (conv => whnf))
            | ((with_reducible refine @And.intro (_ ∨ _) _ ?_ ?_); (· (first | exact Or.inl rfl | exact Or.inr rfl | exact t_b01 _ | assumption)); (conv => whnf))
            | ((with_reducible refine @And.intro (¬ (_ = _)) _ ?_ ?_); (· first | assumption | (with_reducible assumption)); (conv => whnf))
            | (refine hX _ _ _ _ _ _ ?_; (conv => whnf); fail_if_success show False)
            | (rw [t_si]; (conv => whnf))
            | (refine ⟨_, rfl, ?_⟩; (conv => whnf))
            | (refine ⟨_, _, rfl, ?_⟩; (conv => whnf))
            | (refine ⟨_, _, _, rfl, ?_⟩; (conv => whnf))
            | (refine ⟨_, _, _, _, rfl, ?_⟩; (conv => whnf))
            | fail)
          have : k = n := Nat.le_antisymm h1 (t_kge rfl c (by omega) (by omega))
          subst this
          refine t_ask hQ hg hM h0 ?_
          clear hX hG ih
          simp (disch := omega) only [xl_n, xl_m, nI_dec, nI_sb, xl_0, xl_1, tW_i, t_bn0, t_bn1, Classical.not_not, t_lt, nI_add, nI_1, pk_mul, nI_clamp, t_si, nI_eq, nI_leI, nM_ne, nM_ne] at *
          show _ = gw _ p
          rw [show gnow (tG J) = tA J 36 from rfl, show gGK (tG J) = tK J from rfl, ← hA, tA_gw (by omega)]
        · have hk : k < n := t_klt rfl c (by omega)
          repeat' (first
            | ((with_reducible refine @And.intro (vp_in _ _) _ ?_ ?_); (· (first | with_reducible assumption | ((with_reducible refine t_vin ?_); decide) | ((with_reducible refine vp_in_nI ?_ ?_) <;> first | omega | decide) | (simp (disch := omega) only [xl_n, xl_m, nI_dec, nI_sb, nI_add, pk_mul]; (with_reducible refine vp_in_nI ?_ ?_) <;> first | omega | decide))); (conv => whnf))
            | (refine And.intro (by first | with_reducible assumption | exact (show tL _ = _ from rfl) | decide) ?_; (conv => whnf))
            | ((with_reducible refine @And.intro (_ = _) _ ?_ ?_); (· rfl); (conv => whnf))
            | ((with_reducible refine @And.intro (@LE.le Nat _ _ _) _ ?_ ?_); (· (first | exact Nat.zero_le _ | exact Nat.le_of_ble_eq_true rfl | omega)); (conv => whnf))
            | ((with_reducible refine @And.intro (@LT.lt Nat _ _ _) _ ?_ ?_); (· omega); (conv => whnf))
            | ((with_reducible refine @And.intro (∃ _, _ = _) _ ?_ ?_); (· exact ⟨_, rfl⟩); (conv => whnf))
            | ((with_reducible refine @And.intro (_ ∨ _) _ ?_ ?_); (· (first | exact Or.inl rfl | exact Or.inr rfl | exact t_b01 _ | assumption)); (conv => whnf))
            | ((with_reducible refine @And.intro (¬ (_ = _)) _ ?_ ?_); (· first | assumption | (with_reducible assumption)); (conv => whnf))
            | (refine hX _ _ _ _ _ _ ?_; (conv => whnf); fail_if_success show False)
            | (rw [t_si]; (conv => whnf))
            | (refine ⟨_, rfl, ?_⟩; (conv => whnf))
            | (refine ⟨_, _, rfl, ?_⟩; (conv => whnf))
            | (refine ⟨_, _, _, rfl, ?_⟩; (conv => whnf))
            | (refine ⟨_, _, _, _, rfl, ?_⟩; (conv => whnf))
            | (refine And.intro (fun c => ?_) (fun c => ?_) <;> (first | (exact absurd c (by decide +kernel)) | (conv => whnf)))
            | fail)
          intro L hL hE
          (conv => whnf)
          have ⟨t1, t2, t3⟩ := t_try hg hM hL hE
          have := ih (k + 1) (by omega) (by omega) L t1 (t2.trans h0) (by rw [t3, hA]; rfl)
          clear ih
          repeat' (first
            | ((with_reducible refine @And.intro (vp_in _ _) _ ?_ ?_); (· (first | with_reducible assumption | ((with_reducible refine t_vin ?_); decide) | ((with_reducible refine vp_in_nI ?_ ?_) <;> first | omega | decide) | (simp (disch := omega) only [xl_n, xl_m, nI_dec, nI_sb, nI_add, pk_mul]; (with_reducible refine vp_in_nI ?_ ?_) <;> first | omega | decide))); (conv => whnf))
            | (refine And.intro (by first | with_reducible assumption | exact (show tL _ = _ from rfl) | decide) ?_; (conv => whnf))
            | ((with_reducible refine @And.intro (_ = _) _ ?_ ?_); (· rfl); (conv => whnf))
            | ((with_reducible refine @And.intro (@LE.le Nat _ _ _) _ ?_ ?_); (· (first | exact Nat.zero_le _ | exact Nat.le_of_ble_eq_true rfl | omega)); (conv => whnf))
            | ((with_reducible refine @And.intro (@LT.lt Nat _ _ _) _ ?_ ?_); (· omega); (conv => whnf))
            | ((with_reducible refine @And.intro (∃ _, _ = _) _ ?_ ?_); (· exact ⟨_, rfl⟩); (conv => whnf))
            | ((with_reducible refine @And.intro (_ ∨ _) _ ?_ ?_); (· (first | exact Or.inl rfl | exact Or.inr rfl | exact t_b01 _ | assumption)); (conv => whnf))
            | ((with_reducible refine @And.intro (¬ (_ = _)) _ ?_ ?_); (· first | assumption | (with_reducible assumption)); (conv => whnf))
            | (refine hX _ _ _ _ _ _ ?_; (conv => whnf); fail_if_success show False)
            | (rw [t_si]; (conv => whnf))
            | (refine ⟨_, rfl, ?_⟩; (conv => whnf))
            | (refine ⟨_, _, rfl, ?_⟩; (conv => whnf))
            | (refine ⟨_, _, _, rfl, ?_⟩; (conv => whnf))
            | (refine ⟨_, _, _, _, rfl, ?_⟩; (conv => whnf))
            | (refine And.intro (fun c => ?_) (fun c => ?_) <;> (first | (exact absurd c (by decide +kernel)) | (conv => whnf)))
            | fail)
          simp (disch := omega) only [xl_n, xl_m, nI_dec, nI_sb, xl_0, xl_1, tW_i, t_bn0, t_bn1, Classical.not_not, t_lt, nI_add, nI_1, pk_mul, nI_clamp, t_si, nI_eq, nI_leI, nM_ne, nM_ne, xm_set, xm_lv0, xm_psh] at *
          exact this
      repeat' (first
        | ((with_reducible refine @And.intro (vp_in _ _) _ ?_ ?_); (· (first | with_reducible assumption | ((with_reducible refine t_vin ?_); decide) | ((with_reducible refine vp_in_nI ?_ ?_) <;> first | omega | decide) | (simp (disch := omega) only [xl_n, xl_m, nI_dec, nI_sb, nI_add, pk_mul]; (with_reducible refine vp_in_nI ?_ ?_) <;> first | omega | decide))); (conv => whnf))
        | (refine And.intro (by first | with_reducible assumption | exact (show tL _ = _ from rfl) | decide) ?_; (conv => whnf))
        | ((with_reducible refine @And.intro (_ = _) _ ?_ ?_); (· rfl); (conv => whnf))
        | ((with_reducible refine @And.intro (@LE.le Nat _ _ _) _ ?_ ?_); (· (first | exact Nat.zero_le _ | exact Nat.le_of_ble_eq_true rfl | omega)); (conv => whnf))
        | ((with_reducible refine @And.intro (@LT.lt Nat _ _ _) _ ?_ ?_); (· omega); (conv => whnf))
        | ((with_reducible refine @And.intro (∃ _, _ = _) _ ?_ ?_); (· exact ⟨_, rfl⟩); (conv => whnf))
        | ((with_reducible refine @And.intro (_ ∨ _) _ ?_ ?_); (· (first | exact Or.inl rfl | exact Or.inr rfl | exact t_b01 _ | assumption)); (conv => whnf))
        | ((with_reducible refine @And.intro (¬ (_ = _)) _ ?_ ?_); (· first | assumption | (with_reducible assumption)); (conv => whnf))
        | (refine hX _ _ _ _ _ _ ?_; (conv => whnf); fail_if_success show False)
        | (rw [t_si]; (conv => whnf))
        | (refine ⟨_, rfl, ?_⟩; (conv => whnf))
        | (refine ⟨_, _, rfl, ?_⟩; (conv => whnf))
        | (refine ⟨_, _, _, rfl, ?_⟩; (conv => whnf))
        | (refine ⟨_, _, _, _, rfl, ?_⟩; (conv => whnf))
        | (rw [e1]; (conv => whnf))
        | (rw [e2]; (conv => whnf))
        | (refine And.intro (fun c => ?_) (fun c => ?_) <;> (first | (exact absurd c (by decide +kernel)) | (conv => whnf)))
        | fail)
      intro M hM hk
      (conv => whnf)
      repeat' (first
        | ((with_reducible refine @And.intro (vp_in _ _) _ ?_ ?_); (· (first | with_reducible assumption | ((with_reducible refine t_vin ?_); decide) | ((with_reducible refine vp_in_nI ?_ ?_) <;> first | omega | decide) | (simp (disch := omega) only [xl_n, xl_m, nI_dec, nI_sb, nI_add, pk_mul]; (with_reducible refine vp_in_nI ?_ ?_) <;> first | omega | decide))); (conv => whnf))
        | (refine And.intro (by first | with_reducible assumption | exact (show tL _ = _ from rfl) | decide) ?_; (conv => whnf))
        | ((with_reducible refine @And.intro (_ = _) _ ?_ ?_); (· rfl); (conv => whnf))
        | ((with_reducible refine @And.intro (@LE.le Nat _ _ _) _ ?_ ?_); (· (first | exact Nat.zero_le _ | exact Nat.le_of_ble_eq_true rfl | omega)); (conv => whnf))
        | ((with_reducible refine @And.intro (@LT.lt Nat _ _ _) _ ?_ ?_); (· omega); (conv => whnf))
        | ((with_reducible refine @And.intro (∃ _, _ = _) _ ?_ ?_); (· exact ⟨_, rfl⟩); (conv => whnf))
        | ((with_reducible refine @And.intro (_ ∨ _) _ ?_ ?_); (· (first | exact Or.inl rfl | exact Or.inr rfl | exact t_b01 _ | assumption)); (conv => whnf))
        | ((with_reducible refine @And.intro (¬ (_ = _)) _ ?_ ?_); (· first | assumption | (with_reducible assumption)); (conv => whnf))
        | (refine hX _ _ _ _ _ _ ?_; (conv => whnf); fail_if_success show False)
        | (rw [t_si]; (conv => whnf))
        | (refine ⟨_, rfl, ?_⟩; (conv => whnf))
        | (refine ⟨_, _, rfl, ?_⟩; (conv => whnf))
        | (refine ⟨_, _, _, rfl, ?_⟩; (conv => whnf))
        | (refine ⟨_, _, _, _, rfl, ?_⟩; (conv => whnf))
        | (refine And.intro (fun c => ?_) (fun c => ?_) <;> (first | (exact absurd c (by decide +kernel)) | (conv => whnf)))
        | fail)
      exact loop 0 (Nat.zero_le _) M ((hM.sc (by decide)).sl.sp t_f39) (by rw [hM 0 (by decide)]; exact h01) (t_copy hM hk)
    · repeat' (first
        | ((with_reducible refine @And.intro (vp_in _ _) _ ?_ ?_); (· (first | with_reducible assumption | ((with_reducible refine t_vin ?_); decide) | ((with_reducible refine vp_in_nI ?_ ?_) <;> first | omega | decide) | (simp (disch := omega) only [xl_n, xl_m, nI_dec, nI_sb, nI_add, pk_mul]; (with_reducible refine vp_in_nI ?_ ?_) <;> first | omega | decide))); (conv => whnf))
        | (refine And.intro (by first | with_reducible assumption | exact (show tL _ = _ from rfl) | decide) ?_; (conv => whnf))
        | ((with_reducible refine @And.intro (_ = _) _ ?_ ?_); (· rfl); (conv => whnf))
        | ((with_reducible refine @And.intro (@LE.le Nat _ _ _) _ ?_ ?_); (· (first | exact Nat.zero_le _ | exact Nat.le_of_ble_eq_true rfl | omega)); (conv => whnf))
        | ((with_reducible refine @And.intro (@LT.lt Nat _ _ _) _ ?_ ?_); (· omega); (conv => whnf))
        | ((with_reducible refine @And.intro (∃ _, _ = _) _ ?_ ?_); (· exact ⟨_, rfl⟩); (conv => whnf))
        | ((with_reducible refine @And.intro (_ ∨ _) _ ?_ ?_); (· (first | exact Or.inl rfl | exact Or.inr rfl | exact t_b01 _ | assumption)); (conv => whnf))
        | ((with_reducible refine @And.intro (¬ (_ = _)) _ ?_ ?_); (· first | assumption | (with_reducible assumption)); (conv => whnf))
        | (refine hX _ _ _ _ _ _ ?_; (conv => whnf); fail_if_success show False)
        | (rw [t_si]; (conv => whnf))
        | (refine ⟨_, rfl, ?_⟩; (conv => whnf))
        | (refine ⟨_, _, rfl, ?_⟩; (conv => whnf))
        | (refine ⟨_, _, _, rfl, ?_⟩; (conv => whnf))
        | (refine ⟨_, _, _, _, rfl, ?_⟩; (conv => whnf))
        | (rw [e1]; (conv => whnf))
        | (rw [e2]; (conv => whnf))
        | (refine And.intro (fun c => ?_) (fun c => ?_) <;> (first | (exact absurd c (by decide +kernel)) | (conv => whnf)))
        | fail)
      exact t_ref' hQ hg h01 (by simp [f2]) (by decide) rfl rfl
  · rw [q_ahead] at hQ
    repeat' (first
      | ((with_reducible refine @And.intro (vp_in _ _) _ ?_ ?_); (· (first | with_reducible assumption | ((with_reducible refine t_vin ?_); decide) | ((with_reducible refine vp_in_nI ?_ ?_) <;> first | omega | decide) | (simp (disch := omega) only [xl_n, xl_m, nI_dec, nI_sb, nI_add, pk_mul]; (with_reducible refine vp_in_nI ?_ ?_) <;> first | omega | decide))); (conv => whnf))
      | (refine And.intro (by first | with_reducible assumption | exact (show tL _ = _ from rfl) | decide) ?_; (conv => whnf))
      | ((with_reducible refine @And.intro (_ = _) _ ?_ ?_); (· rfl); (conv => whnf))
      | ((with_reducible refine @And.intro (@LE.le Nat _ _ _) _ ?_ ?_); (· (first | exact Nat.zero_le _ | exact Nat.le_of_ble_eq_true rfl | omega)); (conv => whnf))
      | ((with_reducible refine @And.intro (@LT.lt Nat _ _ _) _ ?_ ?_); (· omega); (conv => whnf))
      | ((with_reducible refine @And.intro (∃ _, _ = _) _ ?_ ?_); (· exact ⟨_, rfl⟩); (conv => whnf))
      | ((with_reducible refine @And.intro (_ ∨ _) _ ?_ ?_); (· (first | exact Or.inl rfl | exact Or.inr rfl | exact t_b01 _ | assumption)); (conv => whnf))
      | ((with_reducible refine @And.intro (¬ (_ = _)) _ ?_ ?_); (· first | assumption | (with_reducible assumption)); (conv => whnf))
      | (refine hX _ _ _ _ _ _ ?_; (conv => whnf); fail_if_success show False)
      | (rw [t_si]; (conv => whnf))
      | (refine ⟨_, rfl, ?_⟩; (conv => whnf))
      | (refine ⟨_, _, rfl, ?_⟩; (conv => whnf))
      | (refine ⟨_, _, _, rfl, ?_⟩; (conv => whnf))
      | (refine ⟨_, _, _, _, rfl, ?_⟩; (conv => whnf))
      | (rw [e1]; (conv => whnf))
      | (refine And.intro (fun c => ?_) (fun c => ?_) <;> (first | (exact absurd c (by decide +kernel)) | (conv => whnf)))
      | fail)
    exact t_ref' hQ hg h01 (by simp [f1]) (by decide) rfl rfl
theorem ct_X11_ahead {Iv : xI} (hI : xm_good Iv) : xm_Ct Iv yX11_ahead (ws_ yX11_ahead cX11_ahead 4 (some .int)) 7 0 0 S_X11_ahead := xm_enter (rt := 0) (init := false) (by decide +kernel) rfl (fun h => by cases h) (Or.inl ⟨rfl, rfl⟩) (oX11_ahead hI) body_X11_ahead
theorem cv_X11_ahead {Iv : xI} {own : String} {cc : ByteArray} {fr pc idx : Nat} (hI : xm_good Iv) (hdg : decode cc pc = .ok (.invokevirtual idx, 3)) (hl : xm_ml own idx yX11_ahead) (hfr : 7 < fr) : xm_CallOK Iv own cc fr pc (pc + 3) 3 0 0 (xm_this 8 S_X11_ahead) := xm_callV 8 hI (ct_X11_ahead hI) hdg hl q2408 q2409 q145 q2410 rfl rfl (by decide +kernel) hfr (by decide)
