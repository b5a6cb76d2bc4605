/-! ===== the reference: who comes first, who speaks ===== -/
set_option maxRecDepth 100000
def g_fst (G : gG) (w : Nat) (n : Nat) : Option Nat := t_fold n (fun h b => if ((decide (w = 1) || g_al (gGK G) (gnow G) h) && (match b with | none => true | some z => if w = 0 then !decide (gborn (gGK G) z ≤ gborn (gGK G) h) else !decide (g_net G h ≤ g_net G z))) = true then some h else b) none
theorem g_fst_s {G : gG} {w n : Nat} : g_fst G w (n + 1) = if ((decide (w = 1) || g_al (gGK G) (gnow G) n) && (match g_fst G w n with | none => true | some z => if w = 0 then !decide (gborn (gGK G) z ≤ gborn (gGK G) n) else !decide (g_net G n ≤ g_net G z))) = true then some n else g_fst G w n := rfl
theorem g_fst_lt {G : gG} {w : Nat} : ∀ {n z : Nat}, g_fst G w n = some z → z < n
  | 0, z, h => by cases h
  | n + 1, z, h => by
    rw [g_fst_s] at h
    generalize ((decide (w = 1) || g_al (gGK G) (gnow G) n) && (match g_fst G w n with | none => true | some z => if w = 0 then !decide (gborn (gGK G) z ≤ gborn (gGK G) n) else !decide (g_net G n ≤ g_net G z))) = b at h
    cases b
    · exact Nat.lt_succ_of_lt (g_fst_lt (n := n) h)
    · cases h
      exact Nat.lt_succ_self _
def q_first (G : gG) (a : Int32) : gR := g_ck G (t_in a (nI 0) (nI 1)) (nI 1) 1 (g_says G (t_o (g_fst G a.toNatClampNeg (gn (gGK G)))))
abbrev bX11_first_0 : List xE := [(.aload_n 0, 1, 0, 0, 0), (.iconst 0, 2, 0, 0, 0), (.putfield 134, 5, 8, 0, 0), (.aload_n 0, 6, 0, 0, 0), (.iload_n 1, 7, 0, 0, 0), (.iconst 0, 8, 0, 0, 0), (.iconst 1, 9, 0, 0, 0), (.invokestatic 168, 12, 0, 0, 9), (.ifCond .ne 7, 15, 0, 19, 0), (.iconst 1, 16, 0, 0, 0), (.goto 4, 19, 0, 20, 0)]
abbrev bX11_first_19 : List xE := [(.iconst 0, 20, 0, 0, 0)]
abbrev bX11_first_20 : List xE := [(.iconst 1, 21, 0, 0, 0), (.iconst 1, 22, 0, 0, 0), (.invokevirtual 249, 25, 0, 1, 9), (.ifCond .eq 5, 28, 0, 30, 0), (.iconst 0, 29, 0, 0, 0), (.ireturn, 30, 0, 0, 0)]
abbrev bX11_first_30 : List xE := [(.iconst (-1), 31, 0, 0, 0), (.istore_n 2, 32, 0, 0, 0), (.iconst 0, 33, 0, 0, 0), (.istore_n 3, 34, 0, 0, 0)]
abbrev bX11_first_34 : List xE := [(.iload_n 3, 35, 0, 0, 0), (.aload_n 0, 36, 0, 0, 0), (.getfield 23, 39, 8, 12, 1), (.iconst 0, 40, 0, 0, 0), (.iaload, 41, 0, 0, 0), (.if_icmp .ge 74, 44, 0, 115, 0), (.iload_n 1, 45, 0, 0, 0), (.ifCond .ne 18, 48, 0, 63, 0), (.aload_n 0, 49, 0, 0, 0), (.aload_n 0, 50, 0, 0, 0), (.getfield 91, 53, 8, 36, 1), (.iload_n 3, 54, 0, 0, 0), (.invokevirtual 320, 57, 0, 2, 9), (.ifCond .ne 6, 60, 0, 63, 0), (.goto 49, 63, 0, 109, 0)]
abbrev bX11_first_63 : List xE := [(.iload_n 2, 64, 0, 0, 0), (.iconst (-1), 65, 0, 0, 0), (.if_icmp .eq 42, 68, 0, 107, 0), (.iload_n 1, 69, 0, 0, 0), (.ifCond .ne 25, 72, 0, 94, 0), (.aload_n 0, 73, 0, 0, 0), (.getfield 49, 76, 8, 20, 1), (.iload_n 3, 77, 0, 0, 0), (.aaload, 78, 0, 0, 0), (.iconst 1, 79, 0, 0, 0), (.iaload, 80, 0, 0, 0), (.aload_n 0, 81, 0, 0, 0), (.getfield 49, 84, 8, 20, 1), (.iload_n 2, 85, 0, 0, 0), (.aaload, 86, 0, 0, 0), (.iconst 1, 87, 0, 0, 0), (.iaload, 88, 0, 0, 0), (.if_icmp .ge 21, 91, 0, 109, 0), (.goto 16, 94, 0, 107, 0)]
abbrev bX11_first_94 : List xE := [(.aload_n 0, 95, 0, 0, 0), (.iload_n 3, 96, 0, 0, 0), (.invokevirtual 439, 99, 0, 3, 9), (.aload_n 0, 100, 0, 0, 0), (.iload_n 2, 101, 0, 0, 0), (.invokevirtual 439, 104, 0, 3, 9), (.if_icmp .le 5, 107, 0, 109, 0)]
abbrev bX11_first_107 : List xE := [(.iload_n 3, 108, 0, 0, 0), (.istore_n 2, 109, 0, 0, 0)]
abbrev bX11_first_109 : List xE := [(.iinc 3 1, 112, 0, 0, 0), (.goto (-78), 115, 0, 34, 0)]
abbrev bX11_first_115 : List xE := [(.iload_n 2, 116, 0, 0, 0), (.ireturn, 117, 0, 0, 0)]
abbrev kX11_first : List (Nat × List xE) := [(0, bX11_first_0), (19, bX11_first_19), (20, bX11_first_20), (30, bX11_first_30), (34, bX11_first_34), (63, bX11_first_63), (94, bX11_first_94), (107, bX11_first_107), (109, bX11_first_109), (115, bX11_first_115)]
abbrev lX11_first : List (Nat × Nat × Nat × xS) := [(3, 0, 0, S_X11_in), (4, 0, 0, xm_this 8 S_X11_bad), (3, 0, 0, xm_this 8 S_X11_isAlive), (2, 0, 0, xm_this 8 S_X11_netOf)]
theorem oX11_first_0 {Iv : xI} (hI : xm_good Iv)  : xm_okb Iv RX11 cX11_first false 3 lX11_first bX11_first_0 0 := xo_0 dX11_first_0 rfl trivial (xo_0 dX11_first_1 rfl trivial (xo_0 dX11_first_2 rfl (xm_fp_of (xm_fg_of (Or.inl q1955) (by decide) rfl (by decide) rfl rfl (Or.inl rfl) rfl) (by decide) rfl (Or.inl ⟨rfl, rfl⟩) rfl) (xo_0 dX11_first_5 rfl trivial (xo_0 dX11_first_6 rfl trivial (xo_0 dX11_first_7 rfl trivial (xo_0 dX11_first_8 rfl trivial (xo_c rfl (cv_X11_in hI dX11_first_9 (Or.inl q1942) (by decide)) (xo_0 dX11_first_12 rfl rfl (xo_0 dX11_first_15 rfl trivial (xo_0 dX11_first_16 rfl rfl (xo_n)))))))))))
theorem oX11_first_19 {Iv : xI} (hI : xm_good Iv)  : xm_okb Iv RX11 cX11_first false 3 lX11_first bX11_first_19 19 := xo_0 dX11_first_19 rfl trivial (xo_n)
theorem oX11_first_20 {Iv : xI} (hI : xm_good Iv)  : xm_okb Iv RX11 cX11_first false 3 lX11_first bX11_first_20 20 := xo_0 dX11_first_20 rfl trivial (xo_0 dX11_first_21 rfl trivial (xo_c rfl (cv_X11_bad hI dX11_first_22 (Or.inl q2137) (by decide)) (xo_0 dX11_first_25 rfl rfl (xo_0 dX11_first_28 rfl trivial (xo_0 dX11_first_29 rfl trivial (xo_n))))))
theorem oX11_first_30 {Iv : xI} (hI : xm_good Iv)  : xm_okb Iv RX11 cX11_first false 3 lX11_first bX11_first_30 30 := xo_0 dX11_first_30 rfl trivial (xo_0 dX11_first_31 rfl trivial (xo_0 dX11_first_32 rfl trivial (xo_0 dX11_first_33 rfl trivial (xo_n))))
theorem oX11_first_34 {Iv : xI} (hI : xm_good Iv)  : xm_okb Iv RX11 cX11_first false 3 lX11_first bX11_first_34 34 := xo_0 dX11_first_34 rfl trivial (xo_0 dX11_first_35 rfl trivial (xo_1 dX11_first_36 rfl (xm_fg_of (Or.inl q1967) (by decide) rfl (by decide) rfl rfl (Or.inl rfl) rfl) (xo_0 dX11_first_39 rfl trivial (xo_0 dX11_first_40 rfl trivial (xo_0 dX11_first_41 rfl rfl (xo_0 dX11_first_44 rfl trivial (xo_0 dX11_first_45 rfl rfl (xo_0 dX11_first_48 rfl trivial (xo_0 dX11_first_49 rfl trivial (xo_1 dX11_first_50 rfl (xm_fg_of (Or.inl q1991) (by decide) rfl (by decide) rfl rfl (Or.inl rfl) rfl) (xo_0 dX11_first_53 rfl trivial (xo_c rfl (cv_X11_isAlive hI dX11_first_54 (Or.inl q2292) (by decide)) (xo_0 dX11_first_57 rfl rfl (xo_0 dX11_first_60 rfl rfl (xo_n)))))))))))))))
theorem oX11_first_63 {Iv : xI} (hI : xm_good Iv)  : xm_okb Iv RX11 cX11_first false 3 lX11_first bX11_first_63 63 := xo_0 dX11_first_63 rfl trivial (xo_0 dX11_first_64 rfl trivial (xo_0 dX11_first_65 rfl rfl (xo_0 dX11_first_68 rfl trivial (xo_0 dX11_first_69 rfl rfl (xo_0 dX11_first_72 rfl trivial (xo_1 dX11_first_73 rfl (xm_fg_of (Or.inl q1975) (by decide) rfl (by decide) rfl rfl (Or.inl rfl) rfl) (xo_0 dX11_first_76 rfl trivial (xo_0 dX11_first_77 rfl trivial (xo_0 dX11_first_78 rfl trivial (xo_0 dX11_first_79 rfl trivial (xo_0 dX11_first_80 rfl trivial (xo_1 dX11_first_81 rfl (xm_fg_of (Or.inl q1975) (by decide) rfl (by decide) rfl rfl (Or.inl rfl) rfl) (xo_0 dX11_first_84 rfl trivial (xo_0 dX11_first_85 rfl trivial (xo_0 dX11_first_86 rfl trivial (xo_0 dX11_first_87 rfl trivial (xo_0 dX11_first_88 rfl rfl (xo_0 dX11_first_91 rfl rfl (xo_n)))))))))))))))))))
theorem oX11_first_94 {Iv : xI} (hI : xm_good Iv)  : xm_okb Iv RX11 cX11_first false 3 lX11_first bX11_first_94 94 := xo_0 dX11_first_94 rfl trivial (xo_0 dX11_first_95 rfl trivial (xo_c rfl (cv_X11_netOf hI dX11_first_96 (Or.inl q2572) (by decide)) (xo_0 dX11_first_99 rfl trivial (xo_0 dX11_first_100 rfl trivial (xo_c rfl (cv_X11_netOf hI dX11_first_101 (Or.inl q2572) (by decide)) (xo_0 dX11_first_104 rfl rfl (xo_n)))))))
theorem oX11_first_107 {Iv : xI} (hI : xm_good Iv)  : xm_okb Iv RX11 cX11_first false 3 lX11_first bX11_first_107 107 := xo_0 dX11_first_107 rfl trivial (xo_0 dX11_first_108 rfl trivial (xo_n))
theorem oX11_first_109 {Iv : xI} (hI : xm_good Iv)  : xm_okb Iv RX11 cX11_first false 3 lX11_first bX11_first_109 109 := xo_0 dX11_first_109 rfl trivial (xo_0 dX11_first_112 rfl rfl (xo_n))
theorem oX11_first_115 {Iv : xI} (hI : xm_good Iv)  : xm_okb Iv RX11 cX11_first false 3 lX11_first bX11_first_115 115 := xo_0 dX11_first_115 rfl trivial (xo_0 dX11_first_116 rfl trivial (xo_n))
theorem oX11_first {Iv : xI} (hI : xm_good Iv)  : ∀ q ∈ kX11_first, xm_okb Iv RX11 cX11_first false 3 lX11_first q.2 q.1 := by
  intro q hq
  simp only [List.mem_cons, List.not_mem_nil, or_false] at hq
  rcases hq with rfl | rfl | rfl | rfl | rfl | rfl | rfl | rfl | rfl | rfl
  · exact oX11_first_0 hI  
  · exact oX11_first_19 hI  
  · exact oX11_first_20 hI  
  · exact oX11_first_30 hI  
  · exact oX11_first_34 hI  
  · exact oX11_first_63 hI  
  · exact oX11_first_94 hI  
  · exact oX11_first_107 hI  
  · exact oX11_first_109 hI  
  · exact oX11_first_115 hI  
def S_X11_first : xS := tU fun as I Q => ∃ a, as = [.ref 0, .int a] ∧ t_good I ∧ t_P Q (q_first (tG I) a)
theorem body_X11_first : xm_Body 4 0 0 0 [] lX11_first kX11_first S_X11_first := by
  intro X avs w Q QX hX0 hS
  have hG := xm_go [] hX0
  have hX := xm_go [34] hX0
  clear hX0
  obtain ⟨I, rfl, a, rfl, hg, hQ⟩ := hS
  refine ⟨rfl, ?_⟩
  repeat' (first
    | ((with_reducible refine @And.intro (vp_in _ _) _ ?_ ?_); (· (first | with_reducible assumption | ((with_reducible refine t_vin ?_); decide) | ((with_reducible refine vp_in_nI ?_ ?_) <;> first | omega | decide) | (simp (disch := omega) only [xl_n, xl_m, nI_dec, nI_sb, nI_add, pk_mul]; (with_reducible refine vp_in_nI ?_ ?_) <;> first | omega | decide))); (conv => whnf))
    | (refine And.intro (by first | with_reducible assumption | exact (show tL _ = _ from rfl) | decide) ?_; (conv => whnf))
    | ((with_reducible refine @And.intro (_ = _) _ ?_ ?_); (· rfl); (conv => whnf))
    | ((with_reducible refine @And.intro (@LE.le Nat _ _ _) _ ?_ ?_); (· (first | exact Nat.zero_le _ | exact Nat.le_of_ble_eq_true rfl | omega)); (conv => whnf))
    | ((with_reducible refine @And.intro (@LT.lt Nat _ _ _) _ ?_ ?_); (· omega); (conv => whnf))
    | ((with_reducible refine @And.intro (∃ _, _ = _) _ ?_ ?_); (· exact ⟨_, rfl⟩); (conv => whnf))
    | ((with_reducible refine @And.intro (_ ∨ _) _ ?_ ?_); (· (first | exact Or.inl rfl | exact Or.inr rfl | exact t_b01 _ | assumption)); (conv => whnf))
    | ((with_reducible refine @And.intro (¬ (_ = _)) _ ?_ ?_); (· first | assumption | (with_reducible assumption)); (conv => whnf))
    | (refine hX _ _ _ _ _ _ ?_; (conv => whnf); fail_if_success show False)
    | fail)
  rw [t_si]
  obtain ⟨J, hJ, hg1, hG1, h01⟩ := t_pub hg
  rw [← hJ]
  rw [← hG1] at hQ
  clear hJ hG1 hg I
  have hg := hg1
  have hok := hg.1
  have hl := hg.2.1
  have h8 := hok.2.2.2.1
  have h9 := hok.2.1
  (conv => whnf)
  have hn := hok.1
  rcases t_rc a 0 1 (L := Int32.ofInt 0) (H := Int32.ofInt 1) (by decide +kernel) (by decide +kernel) (by omega) (by omega) with ⟨m, -, hm, rfl, e1, f1⟩ | ⟨e1, f1⟩
  · rw [q_first, f1, g_ck_t, nI_clamp (by omega)] at hQ
    have loop : ∀ k, k ≤ t_h J → X 34 [some (.ref 0), some (.int (nI m)), some (.int (t_o (g_fst (tG J) m k))), some (.int (nI k))] [] (tW J) 0 0 := by
      refine t_for fun k h1 ih => ?_
      refine hG _ _ _ _ _ _ ?_
      (conv => whnf)
      repeat' (first
        | ((with_reducible refine @And.intro (vp_in _ _) _ ?_ ?_); (· (first | with_reducible assumption | ((with_reducible refine t_vin ?_); decide) | ((with_reducible refine vp_in_nI ?_ ?_) <;> first | omega | decide) | (simp (disch := omega) only [xl_n, xl_m, nI_dec, nI_sb, nI_add, pk_mul]; (with_reducible refine vp_in_nI ?_ ?_) <;> first | omega | decide))); (conv => whnf))
        | (refine And.intro (by first | with_reducible assumption | exact (show tL _ = _ from rfl) | decide) ?_; (conv => whnf))
        | ((with_reducible refine @And.intro (_ = _) _ ?_ ?_); (· rfl); (conv => whnf))
        | ((with_reducible refine @And.intro (@LE.le Nat _ _ _) _ ?_ ?_); (· (first | exact Nat.zero_le _ | exact Nat.le_of_ble_eq_true rfl | omega)); (conv => whnf))
        | ((with_reducible refine @And.intro (@LT.lt Nat _ _ _) _ ?_ ?_); (· omega); (conv => whnf))
        | ((with_reducible refine @And.intro (∃ _, _ = _) _ ?_ ?_); (· exact ⟨_, rfl⟩); (conv => whnf))
        | ((with_reducible refine @And.intro (_ ∨ _) _ ?_ ?_); (· (first | exact Or.inl rfl | exact Or.inr rfl | exact t_b01 _ | assumption)); (conv => whnf))
        | ((with_reducible refine @And.intro (¬ (_ = _)) _ ?_ ?_); (· first | assumption | (with_reducible assumption)); (conv => whnf))
        | (refine hX _ _ _ _ _ _ ?_; (conv => whnf); fail_if_success show False)
        | (rw [t_si]; (conv => whnf))
        | (refine ⟨_, rfl, ?_⟩; (conv => whnf))
        | (refine ⟨_, _, rfl, ?_⟩; (conv => whnf))
        | (refine ⟨_, _, _, rfl, ?_⟩; (conv => whnf))
        | (refine ⟨_, _, _, _, rfl, ?_⟩; (conv => whnf))
        | fail)
      refine And.intro (fun c => ?_) (fun c => ?_) <;> (conv => whnf)
      · repeat' (first
          | ((with_reducible refine @And.intro (vp_in _ _) _ ?_ ?_); (· (first | with_reducible assumption | ((with_reducible refine t_vin ?_); decide) | ((with_reducible refine vp_in_nI ?_ ?_) <;> first | omega | decide) | (simp (disch := omega) only [xl_n, xl_m, nI_dec, nI_sb, nI_add, pk_mul]; (with_reducible refine vp_in_nI ?_ ?_) <;> first | omega | decide))); (conv => whnf))
          | (refine And.intro (by first | with_reducible assumption | exact (show tL _ = _ from rfl) | decide) ?_; (conv => whnf))
          | ((with_reducible refine @And.intro (_ = _) _ ?_ ?_); (· rfl); (conv => whnf))
          | ((with_reducible refine @And.intro (@LE.le Nat _ _ _) _ ?_ ?_); (· (first | exact Nat.zero_le _ | exact Nat.le_of_ble_eq_true rfl | omega)); (conv => whnf))
          | ((with_reducible refine @And.intro (@LT.lt Nat _ _ _) _ ?_ ?_); (· omega); (conv => whnf))
          | ((with_reducible refine @And.intro (∃ _, _ = _) _ ?_ ?_); (· exact ⟨_, rfl⟩); (conv => whnf))
          | ((with_reducible refine @And.intro (_ ∨ _) _ ?_ ?_); (· (first | exact Or.inl rfl | exact Or.inr rfl | exact t_b01 _ | assumption)); (conv => whnf))
          | ((with_reducible refine @And.intro (¬ (_ = _)) _ ?_ ?_); (· first | assumption | (with_reducible assumption)); (conv => whnf))
          | (refine hX _ _ _ _ _ _ ?_; (conv => whnf); fail_if_success show False)
          | (rw [t_si]; (conv => whnf))
          | (refine ⟨_, rfl, ?_⟩; (conv => whnf))
          | (refine ⟨_, _, rfl, ?_⟩; (conv => whnf))
          | (refine ⟨_, _, _, rfl, ?_⟩; (conv => whnf))
          | (refine ⟨_, _, _, _, rfl, ?_⟩; (conv => whnf))
          | fail)
        have : k = t_h J := Nat.le_antisymm h1 (t_kge hn c (by omega) (by omega))
        subst this
        exact t_ask hQ hg t_sp.rf h01 rfl
      · have hk : k < t_h J := t_klt hn c (by omega)
        have nx := ih (k + 1) (by omega) (by omega)
        rw [g_fst_s] at nx
        clear ih
        rcases hb : g_fst (tG J) m k with _ | z
        · rw [hb] at nx
          have q : m = 0 ∨ m = 1 := by omega
          rcases q with rfl | rfl
          all_goals
            repeat' (first
              | ((with_reducible refine @And.intro (vp_in _ _) _ ?_ ?_); (· (first | with_reducible assumption | ((with_reducible refine t_vin ?_); decide) | ((with_reducible refine vp_in_nI ?_ ?_) <;> first | omega | decide) | (simp (disch := omega) only [xl_n, xl_m, nI_dec, nI_sb, nI_add, pk_mul]; (with_reducible refine vp_in_nI ?_ ?_) <;> first | omega | decide))); (conv => whnf))
              | (refine And.intro (by first | with_reducible assumption | exact (show tL _ = _ from rfl) | decide) ?_; (conv => whnf))
              | ((with_reducible refine @And.intro (_ = _) _ ?_ ?_); (· rfl); (conv => whnf))
              | ((with_reducible refine @And.intro (@LE.le Nat _ _ _) _ ?_ ?_); (· (first | exact Nat.zero_le _ | exact Nat.le_of_ble_eq_true rfl | omega)); (conv => whnf))
              | ((with_reducible refine @And.intro (@LT.lt Nat _ _ _) _ ?_ ?_); (· omega); (conv => whnf))
              | ((with_reducible refine @And.intro (∃ _, _ = _) _ ?_ ?_); (· exact ⟨_, rfl⟩); (conv => whnf))
              | ((with_reducible refine @And.intro (_ ∨ _) _ ?_ ?_); (· (first | exact Or.inl rfl | exact Or.inr rfl | exact t_b01 _ | assumption)); (conv => whnf))
              | ((with_reducible refine @And.intro (¬ (_ = _)) _ ?_ ?_); (· first | assumption | (with_reducible assumption)); (conv => whnf))
              | (refine hX _ _ _ _ _ _ ?_; (conv => whnf); fail_if_success show False)
              | (rw [t_si]; (conv => whnf))
              | (refine ⟨_, rfl, ?_⟩; (conv => whnf))
              | (refine ⟨_, _, rfl, ?_⟩; (conv => whnf))
              | (refine ⟨_, _, _, rfl, ?_⟩; (conv => whnf))
              | (refine ⟨_, _, _, _, rfl, ?_⟩; (conv => whnf))
              | (refine And.intro (fun c => ?_) (fun c => ?_) <;> (first | (exact absurd c (by decide +kernel)) | (conv => whnf)))
              | fail)
            all_goals clear hX hG hQ
            all_goals simp (disch := omega) only [xl_n, xl_m, nI_dec, nI_sb, xl_0, xl_1, tW_i, t_bn0, t_bn1, Classical.not_not, t_lt, nI_add, nI_1, pk_mul, nI_clamp, t_si, nI_eq, nI_leI, nM_ne, nM_ne, xm_set, xm_lv0, xm_psh] at *
            all_goals simp_all [gGK, gnow, tG, tN, t_o]
        · rw [hb] at nx
          have hz := g_fst_lt hb
          have hzJ : z < t_h J := by omega
          have b1 : gborn (tK J) k = J (110 + k) 1 := tK_born hk
          have b2 : gborn (tK J) z = J (110 + z) 1 := tK_born hzJ
          have q : m = 0 ∨ m = 1 := by omega
          rw [show t_o (some z) = nI z from rfl]
          rcases q with rfl | rfl
          all_goals
            repeat' (first
              | ((with_reducible refine @And.intro (vp_in _ _) _ ?_ ?_); (· (first | with_reducible assumption | ((with_reducible refine t_vin ?_); decide) | ((with_reducible refine vp_in_nI ?_ ?_) <;> first | omega | decide) | (simp (disch := omega) only [xl_n, xl_m, nI_dec, nI_sb, nI_add, pk_mul]; (with_reducible refine vp_in_nI ?_ ?_) <;> first | omega | decide))); (conv => whnf))
              | (refine And.intro (by first | with_reducible assumption | exact (show tL _ = _ from rfl) | decide) ?_; (conv => whnf))
              | ((with_reducible refine @And.intro (_ = _) _ ?_ ?_); (· rfl); (conv => whnf))
              | ((with_reducible refine @And.intro (@LE.le Nat _ _ _) _ ?_ ?_); (· (first | exact Nat.zero_le _ | exact Nat.le_of_ble_eq_true rfl | omega)); (conv => whnf))
              | ((with_reducible refine @And.intro (@LT.lt Nat _ _ _) _ ?_ ?_); (· omega); (conv => whnf))
              | ((with_reducible refine @And.intro (∃ _, _ = _) _ ?_ ?_); (· exact ⟨_, rfl⟩); (conv => whnf))
              | ((with_reducible refine @And.intro (_ ∨ _) _ ?_ ?_); (· (first | exact Or.inl rfl | exact Or.inr rfl | exact t_b01 _ | assumption)); (conv => whnf))
              | ((with_reducible refine @And.intro (¬ (_ = _)) _ ?_ ?_); (· first | assumption | (with_reducible assumption)); (conv => whnf))
              | (refine hX _ _ _ _ _ _ ?_; (conv => whnf); fail_if_success show False)
              | (rw [t_si]; (conv => whnf))
              | (refine ⟨_, rfl, ?_⟩; (conv => whnf))
              | (refine ⟨_, _, rfl, ?_⟩; (conv => whnf))
              | (refine ⟨_, _, _, rfl, ?_⟩; (conv => whnf))
              | (refine ⟨_, _, _, _, rfl, ?_⟩; (conv => whnf))
              | (rw [t_l110 (by first | with_reducible assumption | omega | exact vp_lt (by assumption) | (rw [nI_clamp (by omega)]; omega))]; (conv => whnf))
              | (refine And.intro (fun c => ?_) (fun c => ?_) <;> (first | (exact absurd c (by decide +kernel)) | (conv => whnf)))
              | fail)
            all_goals clear hX hG hQ
            all_goals simp (disch := omega) only [xl_n, xl_m, nI_dec, nI_sb, xl_0, xl_1, tW_i, t_bn0, t_bn1, Classical.not_not, t_lt, nI_add, nI_1, pk_mul, nI_clamp, t_si, nI_eq, nI_leI, nM_ne, nM_ne, xm_set, xm_lv0, xm_psh] at *
            all_goals (first | (exfalso; exact nM_ne (n := z) (by omega) (by assumption)) | (simp_all [gGK, gnow, tG, tN, t_o]; done) | (simpa [*, t_o] using nx))
    repeat' (first
      | ((with_reducible refine @And.intro (vp_in _ _) _ ?_ ?_); (· (first | with_reducible assumption | ((with_reducible refine t_vin ?_); decide) | ((with_reducible refine vp_in_nI ?_ ?_) <;> first | omega | decide) | (simp (disch := omega) only [xl_n, xl_m, nI_dec, nI_sb, nI_add, pk_mul]; (with_reducible refine vp_in_nI ?_ ?_) <;> first | omega | decide))); (conv => whnf))
      | (refine And.intro (by first | with_reducible assumption | exact (show tL _ = _ from rfl) | decide) ?_; (conv => whnf))
      | ((with_reducible refine @And.intro (_ = _) _ ?_ ?_); (· rfl); (conv => whnf))
      | ((with_reducible refine @And.intro (@LE.le Nat _ _ _) _ ?_ ?_); (· (first | exact Nat.zero_le _ | exact Nat.le_of_ble_eq_true rfl | omega)); (conv => whnf))
      | ((with_reducible refine @And.intro (@LT.lt Nat _ _ _) _ ?_ ?_); (· omega); (conv => whnf))
      | ((with_reducible refine @And.intro (∃ _, _ = _) _ ?_ ?_); (· exact ⟨_, rfl⟩); (conv => whnf))
      | ((with_reducible refine @And.intro (_ ∨ _) _ ?_ ?_); (· (first | exact Or.inl rfl | exact Or.inr rfl | exact t_b01 _ | assumption)); (conv => whnf))
      | ((with_reducible refine @And.intro (¬ (_ = _)) _ ?_ ?_); (· first | assumption | (with_reducible assumption)); (conv => whnf))
      | (refine hX _ _ _ _ _ _ ?_; (conv => whnf); fail_if_success show False)
      | (rw [t_si]; (conv => whnf))
      | (refine ⟨_, rfl, ?_⟩; (conv => whnf))
      | (refine ⟨_, _, rfl, ?_⟩; (conv => whnf))
      | (refine ⟨_, _, _, rfl, ?_⟩; (conv => whnf))
      | (refine ⟨_, _, _, _, rfl, ?_⟩; (conv => whnf))
      | (rw [e1]; (conv => whnf))
      | (refine And.intro (fun c => ?_) (fun c => ?_) <;> (first | (exact absurd c (by decide +kernel)) | (conv => whnf)))
      | fail)
    exact loop 0 (Nat.zero_le _)
  · rw [q_first] at hQ
    repeat' (first
      | ((with_reducible refine @And.intro (vp_in _ _) _ ?_ ?_); (· (first | with_reducible assumption | ((with_reducible refine t_vin ?_); decide) | ((with_reducible refine vp_in_nI ?_ ?_) <;> first | omega | decide) | (simp (disch := omega) only [xl_n, xl_m, nI_dec, nI_sb, nI_add, pk_mul]; (with_reducible refine vp_in_nI ?_ ?_) <;> first | omega | decide))); (conv => whnf))
      | (refine And.intro (by first | with_reducible assumption | exact (show tL _ = _ from rfl) | decide) ?_; (conv => whnf))
      | ((with_reducible refine @And.intro (_ = _) _ ?_ ?_); (· rfl); (conv => whnf))
      | ((with_reducible refine @And.intro (@LE.le Nat _ _ _) _ ?_ ?_); (· (first | exact Nat.zero_le _ | exact Nat.le_of_ble_eq_true rfl | omega)); (conv => whnf))
      | ((with_reducible refine @And.intro (@LT.lt Nat _ _ _) _ ?_ ?_); (· omega); (conv => whnf))
      | ((with_reducible refine @And.intro (∃ _, _ = _) _ ?_ ?_); (· exact ⟨_, rfl⟩); (conv => whnf))
      | ((with_reducible refine @And.intro (_ ∨ _) _ ?_ ?_); (· (first | exact Or.inl rfl | exact Or.inr rfl | exact t_b01 _ | assumption)); (conv => whnf))
      | ((with_reducible refine @And.intro (¬ (_ = _)) _ ?_ ?_); (· first | assumption | (with_reducible assumption)); (conv => whnf))
      | (refine hX _ _ _ _ _ _ ?_; (conv => whnf); fail_if_success show False)
      | (rw [t_si]; (conv => whnf))
      | (refine ⟨_, rfl, ?_⟩; (conv => whnf))
      | (refine ⟨_, _, rfl, ?_⟩; (conv => whnf))
      | (refine ⟨_, _, _, rfl, ?_⟩; (conv => whnf))
      | (refine ⟨_, _, _, _, rfl, ?_⟩; (conv => whnf))
      | (rw [e1]; (conv => whnf))
      | (refine And.intro (fun c => ?_) (fun c => ?_) <;> (first | (exact absurd c (by decide +kernel)) | (conv => whnf)))
      | fail)
    exact t_ref' hQ hg h01 (by simp [f1]) (by decide) rfl rfl
theorem ct_X11_first {Iv : xI} (hI : xm_good Iv) : xm_Ct Iv yX11_first (ws_ yX11_first cX11_first 4 (some .int)) 3 0 0 S_X11_first := xm_enter (rt := 0) (init := false) (by decide +kernel) rfl (fun h => by cases h) (Or.inl ⟨rfl, rfl⟩) (oX11_first hI) body_X11_first
theorem cv_X11_first {Iv : xI} {own : String} {cc : ByteArray} {fr pc idx : Nat} (hI : xm_good Iv) (hdg : decode cc pc = .ok (.invokevirtual idx, 3)) (hl : xm_ml own idx yX11_first) (hfr : 3 < fr) : xm_CallOK Iv own cc fr pc (pc + 3) 2 0 0 (xm_this 8 S_X11_first) := xm_callV 8 hI (ct_X11_first hI) hdg hl q2577 q2578 q145 q2579 rfl rfl (by decide +kernel) hfr (by decide)
