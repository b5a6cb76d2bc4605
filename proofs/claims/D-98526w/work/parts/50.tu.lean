/-! ===== the reference: what is fair ===== -/
set_option maxRecDepth 100000
def g_lgh (G : gG) (x : Int32) (p n : Nat) : Int32 := t_sum n fun a => if (t_has x a && t_has (g_bits G a) p) = true then glaugh G a else nI 0
def g_fair (G : gG) (x : Int32) (n : Nat) : Int32 := t_sum n fun p => t_more (nI 0) (g_lgh G x p (gacts G) - gs (gnow G) p)
def q_fair (G : gG) (x : Int32) : gR := g_ck G (t_in x (nI 0) ((nI 1 <<< (nI (gacts G) &&& 31)) - nI 1)) (nI 1) 1 (g_says G (g_fair G x (gm (gGK G))))
abbrev bX11_fair_0 : List xE := [(.aload_n 0, 1, 0, 0, 0), (.iconst 0, 2, 0, 0, 0), (.putfield 134, 5, 8, 0, 0), (.aload_n 0, 6, 0, 0, 0), (.iload_n 1, 7, 0, 0, 0), (.iconst 0, 8, 0, 0, 0), (.iconst 1, 9, 0, 0, 0), (.aload_n 0, 10, 0, 0, 0), (.getfield 23, 13, 8, 12, 1), (.iconst 2, 14, 0, 0, 0), (.iaload, 15, 0, 0, 0), (.ishl, 16, 0, 0, 0), (.iconst 1, 17, 0, 0, 0), (.isub, 18, 0, 0, 0), (.invokestatic 168, 21, 0, 0, 9), (.ifCond .ne 7, 24, 0, 28, 0), (.iconst 1, 25, 0, 0, 0), (.goto 4, 28, 0, 29, 0)]
abbrev bX11_fair_28 : List xE := [(.iconst 0, 29, 0, 0, 0)]
abbrev bX11_fair_29 : List xE := [(.iconst 1, 30, 0, 0, 0), (.iconst 1, 31, 0, 0, 0), (.invokevirtual 249, 34, 0, 1, 9), (.ifCond .eq 5, 37, 0, 39, 0), (.iconst 0, 38, 0, 0, 0), (.ireturn, 39, 0, 0, 0)]
abbrev bX11_fair_39 : List xE := [(.iconst 0, 40, 0, 0, 0), (.istore_n 2, 41, 0, 0, 0), (.iconst 0, 42, 0, 0, 0), (.istore_n 3, 43, 0, 0, 0)]
abbrev bX11_fair_43 : List xE := [(.iload_n 3, 44, 0, 0, 0), (.aload_n 0, 45, 0, 0, 0), (.getfield 23, 48, 8, 12, 1), (.iconst 1, 49, 0, 0, 0), (.iaload, 50, 0, 0, 0), (.if_icmp .ge 91, 53, 0, 141, 0), (.iconst 0, 54, 0, 0, 0), (.istore 4, 56, 0, 0, 0), (.iconst 0, 57, 0, 0, 0), (.istore 5, 59, 0, 0, 0)]
abbrev bX11_fair_59 : List xE := [(.iload 5, 61, 0, 0, 0), (.aload_n 0, 62, 0, 0, 0), (.getfield 23, 65, 8, 12, 1), (.iconst 2, 66, 0, 0, 0), (.iaload, 67, 0, 0, 0), (.if_icmp .ge 49, 70, 0, 116, 0), (.iload 4, 72, 0, 0, 0), (.iload_n 1, 73, 0, 0, 0), (.iload 5, 75, 0, 0, 0), (.invokestatic 242, 78, 0, 2, 9), (.ifCond .eq 28, 81, 0, 106, 0), (.aload_n 0, 82, 0, 0, 0), (.iload 5, 84, 0, 0, 0), (.invokevirtual 347, 87, 0, 3, 9), (.iload_n 3, 88, 0, 0, 0), (.invokestatic 242, 91, 0, 2, 9), (.ifCond .eq 15, 94, 0, 106, 0), (.aload_n 0, 95, 0, 0, 0), (.getfield 61, 98, 8, 24, 1), (.iload 5, 100, 0, 0, 0), (.aaload, 101, 0, 0, 0), (.iconst 0, 102, 0, 0, 0), (.iaload, 103, 0, 0, 0), (.goto 4, 106, 0, 107, 0)]
abbrev bX11_fair_106 : List xE := [(.iconst 0, 107, 0, 0, 0)]
abbrev bX11_fair_107 : List xE := [(.iadd, 108, 0, 0, 0), (.istore 4, 110, 0, 0, 0), (.iinc 5 1, 113, 0, 0, 0), (.goto (-54), 116, 0, 59, 0)]
abbrev bX11_fair_116 : List xE := [(.iload_n 2, 117, 0, 0, 0), (.iconst 0, 118, 0, 0, 0), (.iload 4, 120, 0, 0, 0), (.aload_n 0, 121, 0, 0, 0), (.getfield 91, 124, 8, 36, 1), (.bipush 9, 126, 0, 0, 0), (.iload_n 3, 127, 0, 0, 0), (.iadd, 128, 0, 0, 0), (.iaload, 129, 0, 0, 0), (.isub, 130, 0, 0, 0), (.invokestatic 313, 133, 0, 4, 9), (.iadd, 134, 0, 0, 0), (.istore_n 2, 135, 0, 0, 0), (.iinc 3 1, 138, 0, 0, 0), (.goto (-95), 141, 0, 43, 0)]
abbrev bX11_fair_141 : List xE := [(.iload_n 2, 142, 0, 0, 0), (.ireturn, 143, 0, 0, 0)]
abbrev kX11_fair : List (Nat × List xE) := [(0, bX11_fair_0), (28, bX11_fair_28), (29, bX11_fair_29), (39, bX11_fair_39), (43, bX11_fair_43), (59, bX11_fair_59), (106, bX11_fair_106), (107, bX11_fair_107), (116, bX11_fair_116), (141, bX11_fair_141)]
abbrev lX11_fair : List (Nat × Nat × Nat × xS) := [(3, 0, 0, S_X11_in), (4, 0, 0, xm_this 8 S_X11_bad), (2, 0, 0, S_X11_has), (2, 0, 0, xm_this 8 S_X11_bitsOf), (2, 0, 0, S_X11_more)]
theorem oX11_fair_0 {Iv : xI} (hI : xm_good Iv)  : xm_okb Iv RX11 cX11_fair false 2 lX11_fair bX11_fair_0 0 := xo_0 dX11_fair_0 rfl trivial (xo_0 dX11_fair_1 rfl trivial (xo_0 dX11_fair_2 rfl (xm_fp_of (xm_fg_of (Or.inl q1955) (by decide) rfl (by decide) rfl rfl (Or.inl rfl) rfl) (by decide) rfl (Or.inl ⟨rfl, rfl⟩) rfl) (xo_0 dX11_fair_5 rfl trivial (xo_0 dX11_fair_6 rfl trivial (xo_0 dX11_fair_7 rfl trivial (xo_0 dX11_fair_8 rfl trivial (xo_0 dX11_fair_9 rfl trivial (xo_1 dX11_fair_10 rfl (xm_fg_of (Or.inl q1967) (by decide) rfl (by decide) rfl rfl (Or.inl rfl) rfl) (xo_0 dX11_fair_13 rfl trivial (xo_0 dX11_fair_14 rfl trivial (xo_0 dX11_fair_15 rfl trivial (xo_0 dX11_fair_16 rfl trivial (xo_0 dX11_fair_17 rfl trivial (xo_c rfl (cv_X11_in hI dX11_fair_18 (Or.inl q1942) (by decide)) (xo_0 dX11_fair_21 rfl rfl (xo_0 dX11_fair_24 rfl trivial (xo_0 dX11_fair_25 rfl rfl (xo_n))))))))))))))))))
theorem oX11_fair_28 {Iv : xI} (hI : xm_good Iv)  : xm_okb Iv RX11 cX11_fair false 2 lX11_fair bX11_fair_28 28 := xo_0 dX11_fair_28 rfl trivial (xo_n)
theorem oX11_fair_29 {Iv : xI} (hI : xm_good Iv)  : xm_okb Iv RX11 cX11_fair false 2 lX11_fair bX11_fair_29 29 := xo_0 dX11_fair_29 rfl trivial (xo_0 dX11_fair_30 rfl trivial (xo_c rfl (cv_X11_bad hI dX11_fair_31 (Or.inl q2137) (by decide)) (xo_0 dX11_fair_34 rfl rfl (xo_0 dX11_fair_37 rfl trivial (xo_0 dX11_fair_38 rfl trivial (xo_n))))))
theorem oX11_fair_39 {Iv : xI} (hI : xm_good Iv)  : xm_okb Iv RX11 cX11_fair false 2 lX11_fair bX11_fair_39 39 := xo_0 dX11_fair_39 rfl trivial (xo_0 dX11_fair_40 rfl trivial (xo_0 dX11_fair_41 rfl trivial (xo_0 dX11_fair_42 rfl trivial (xo_n))))
theorem oX11_fair_43 {Iv : xI} (hI : xm_good Iv)  : xm_okb Iv RX11 cX11_fair false 2 lX11_fair bX11_fair_43 43 := xo_0 dX11_fair_43 rfl trivial (xo_0 dX11_fair_44 rfl trivial (xo_1 dX11_fair_45 rfl (xm_fg_of (Or.inl q1967) (by decide) rfl (by decide) rfl rfl (Or.inl rfl) rfl) (xo_0 dX11_fair_48 rfl trivial (xo_0 dX11_fair_49 rfl trivial (xo_0 dX11_fair_50 rfl rfl (xo_0 dX11_fair_53 rfl trivial (xo_0 dX11_fair_54 rfl trivial (xo_0 dX11_fair_56 rfl trivial (xo_0 dX11_fair_57 rfl trivial (xo_n))))))))))
theorem oX11_fair_59 {Iv : xI} (hI : xm_good Iv)  : xm_okb Iv RX11 cX11_fair false 2 lX11_fair bX11_fair_59 59 := xo_0 dX11_fair_59 rfl trivial (xo_0 dX11_fair_61 rfl trivial (xo_1 dX11_fair_62 rfl (xm_fg_of (Or.inl q1967) (by decide) rfl (by decide) rfl rfl (Or.inl rfl) rfl) (xo_0 dX11_fair_65 rfl trivial (xo_0 dX11_fair_66 rfl trivial (xo_0 dX11_fair_67 rfl rfl (xo_0 dX11_fair_70 rfl trivial (xo_0 dX11_fair_72 rfl trivial (xo_0 dX11_fair_73 rfl trivial (xo_c rfl (cv_X11_has hI dX11_fair_75 (Or.inl q1945) (by decide)) (xo_0 dX11_fair_78 rfl rfl (xo_0 dX11_fair_81 rfl trivial (xo_0 dX11_fair_82 rfl trivial (xo_c rfl (cv_X11_bitsOf hI dX11_fair_84 (Or.inl q2335) (by decide)) (xo_0 dX11_fair_87 rfl trivial (xo_c rfl (cv_X11_has hI dX11_fair_88 (Or.inl q1945) (by decide)) (xo_0 dX11_fair_91 rfl rfl (xo_0 dX11_fair_94 rfl trivial (xo_1 dX11_fair_95 rfl (xm_fg_of (Or.inl q1979) (by decide) rfl (by decide) rfl rfl (Or.inl rfl) rfl) (xo_0 dX11_fair_98 rfl trivial (xo_0 dX11_fair_100 rfl trivial (xo_0 dX11_fair_101 rfl trivial (xo_0 dX11_fair_102 rfl trivial (xo_0 dX11_fair_103 rfl rfl (xo_n))))))))))))))))))))))))
theorem oX11_fair_106 {Iv : xI} (hI : xm_good Iv)  : xm_okb Iv RX11 cX11_fair false 2 lX11_fair bX11_fair_106 106 := xo_0 dX11_fair_106 rfl trivial (xo_n)
theorem oX11_fair_107 {Iv : xI} (hI : xm_good Iv)  : xm_okb Iv RX11 cX11_fair false 2 lX11_fair bX11_fair_107 107 := xo_0 dX11_fair_107 rfl trivial (xo_0 dX11_fair_108 rfl trivial (xo_0 dX11_fair_110 rfl trivial (xo_0 dX11_fair_113 rfl rfl (xo_n))))
theorem oX11_fair_116 {Iv : xI} (hI : xm_good Iv)  : xm_okb Iv RX11 cX11_fair false 2 lX11_fair bX11_fair_116 116 := xo_0 dX11_fair_116 rfl trivial (xo_0 dX11_fair_117 rfl trivial (xo_0 dX11_fair_118 rfl trivial (xo_0 dX11_fair_120 rfl trivial (xo_1 dX11_fair_121 rfl (xm_fg_of (Or.inl q1991) (by decide) rfl (by decide) rfl rfl (Or.inl rfl) rfl) (xo_0 dX11_fair_124 rfl (xo_bipush (by decide +kernel)) (xo_0 dX11_fair_126 rfl trivial (xo_0 dX11_fair_127 rfl trivial (xo_0 dX11_fair_128 rfl trivial (xo_0 dX11_fair_129 rfl trivial (xo_c rfl (cv_X11_more hI dX11_fair_130 (Or.inl q2312) (by decide)) (xo_0 dX11_fair_133 rfl trivial (xo_0 dX11_fair_134 rfl trivial (xo_0 dX11_fair_135 rfl trivial (xo_0 dX11_fair_138 rfl rfl (xo_n)))))))))))))))
theorem oX11_fair_141 {Iv : xI} (hI : xm_good Iv)  : xm_okb Iv RX11 cX11_fair false 2 lX11_fair bX11_fair_141 141 := xo_0 dX11_fair_141 rfl trivial (xo_0 dX11_fair_142 rfl trivial (xo_n))
theorem oX11_fair {Iv : xI} (hI : xm_good Iv)  : ∀ q ∈ kX11_fair, xm_okb Iv RX11 cX11_fair false 2 lX11_fair q.2 q.1 := by
  intro q hq
  simp only [List.mem_cons, List.not_mem_nil, or_false] at hq
  rcases hq with rfl | rfl | rfl | rfl | rfl | rfl | rfl | rfl | rfl | rfl
  · exact oX11_fair_0 hI  
  · exact oX11_fair_28 hI  
  · exact oX11_fair_29 hI  
  · exact oX11_fair_39 hI  
  · exact oX11_fair_43 hI  
  · exact oX11_fair_59 hI  
  · exact oX11_fair_106 hI  
  · exact oX11_fair_107 hI  
  · exact oX11_fair_116 hI  
  · exact oX11_fair_141 hI  
def S_X11_fair : xS := tU fun as I Q => ∃ x, as = [.ref 0, .int x] ∧ t_good I ∧ t_P Q (q_fair (tG I) x)
theorem body_X11_fair : xm_Body 6 0 0 0 [] lX11_fair kX11_fair S_X11_fair := by
  intro X avs w Q QX hX0 hS
  have hG := xm_go [] hX0
  have hX := xm_go [43,59] hX0
  clear hX0
  obtain ⟨I, rfl, x, rfl, hg, hQ⟩ := hS
  refine ⟨rfl, ?_⟩
  repeat' (first
    | ((with_reducible refine @And.intro (vp_in _ _) _ ?_ ?_); (· (first | with_reducible assumption | ((with_reducible refine t_vin ?_); decide) | ((with_reducible refine vp_in_nI ?_ ?_) <;> first | omega | decide) | (simp (disch := omega) only [xl_n, xl_m, nI_dec, nI_sb, nI_add, pk_mul]; (with_reducible refine vp_in_nI ?_ ?_) <;> first | omega | decide))); (conv => whnf))
    | (refine And.intro (by first | with_reducible assumption | exact (show tL _ = _ from rfl) | decide) ?_; (conv => whnf))
    | ((with_reducible refine @And.intro (_ = _) _ ?_ ?_); (· rfl); (conv => whnf))
    | ((with_reducible refine @And.intro (@LE.le Nat _ _ _) _ ?_ ?_); (· (first | exact Nat.zero_le _ | exact Nat.le_of_ble_eq_true rfl | omega)); (conv => whnf))
    | ((with_reducible refine @And.intro (@LT.lt Nat _ _ _) _ ?_ ?_); (· omega); (conv => whnf))
    | ((with_reducible refine @And.intro (∃ _, _ = _) _ ?_ ?_); (· exact ⟨_, rfl⟩); (conv => whnf))
    | ((with_reducible refine @And.intro (_ ∨ _) _ ?_ ?_); (· (first | exact Or.inl rfl | exact Or.inr rfl | exact t_b01 _ | assumption)); (conv => whnf))
    | ((with_reducible refine @And.intro (¬ (_ = _)) _ ?_ ?_); (· first | assumption | (with_reducible assumption)); (conv => whnf))
    | (refine hX _ _ _ _ _ _ ?_; (conv => whnf); fail_if_success show False)
    | fail)
  rw [t_si]
  obtain ⟨J, hJ, hg1, hG1, h01⟩ := t_pub hg
  rw [← hJ]
  rw [← hG1] at hQ
  clear hJ hG1 hg I
  have hg := hg1
  have hok := hg.1
  have hl := hg.2.1
  have h8 := hok.2.2.2.1
  have h9 := hok.2.1
  (conv => whnf)
  obtain ⟨-, -, hm, -, ha, ha6⟩ := id hok
  have hQ1 : t_in x (nI 0) ((nI 1 <<< (J 12 2 &&& 31)) - nI 1) = true → t_P (fun v I' => Q v (tW I')) (g_says (tG J) (g_fair (tG J) x (t_p J))) := fun e => by
    rw [ha] at e
    rw [q_fair, show gacts (tG J) = t_a J from rfl, e, g_ck_t] at hQ
    exact hQ
  have loop : t_in x (nI 0) ((nI 1 <<< (J 12 2 &&& 31)) - nI 1) = true → ∀ k, k ≤ t_p J → ∀ o o', (o = none ∨ ∃ z, o = some (.int z)) → (o' = none ∨ ∃ z, o' = some (.int z)) → X 43 [some (.ref 0), some (.int x), some (.int (g_fair (tG J) x k)), some (.int (nI k)), o, o'] [] (tW J) 0 0 := by
    intro hin
    refine t_for fun k h1 ih o o' ho ho' => ?_
    have inner : k < t_p J → ∀ j, j ≤ t_a J → X 59 [some (.ref 0), some (.int x), some (.int (g_fair (tG J) x k)), some (.int (nI k)), some (.int (g_lgh (tG J) x k j)), some (.int (nI j))] [] (tW J) 0 0 := by
      intro hk
      refine t_for fun j j1 jh => ?_
      refine hG _ _ _ _ _ _ ?_
      (conv => whnf)
      repeat' (first
        | ((with_reducible refine @And.intro (vp_in _ _) _ ?_ ?_); (· (first | with_reducible assumption | ((with_reducible refine t_vin ?_); decide) | ((with_reducible refine vp_in_nI ?_ ?_) <;> first | omega | decide) | (simp (disch := omega) only [xl_n, xl_m, nI_dec, nI_sb, nI_add, pk_mul]; (with_reducible refine vp_in_nI ?_ ?_) <;> first | omega | decide))); (conv => whnf))
        | (refine And.intro (by first | with_reducible assumption | exact (show tL _ = _ from rfl) | decide) ?_; (conv => whnf))
        | ((with_reducible refine @And.intro (_ = _) _ ?_ ?_); (· rfl); (conv => whnf))
        | ((with_reducible refine @And.intro (@LE.le Nat _ _ _) _ ?_ ?_); (· (first | exact Nat.zero_le _ | exact Nat.le_of_ble_eq_true rfl | omega)); (conv => whnf))
        | ((with_reducible refine @And.intro (@LT.lt Nat _ _ _) _ ?_ ?_); (· omega); (conv => whnf))
        | ((with_reducible refine @And.intro (∃ _, _ = _) _ ?_ ?_); (· exact ⟨_, rfl⟩); (conv => whnf))
        | ((with_reducible refine @And.intro (_ ∨ _) _ ?_ ?_); (· (first | exact Or.inl rfl | exact Or.inr rfl | exact t_b01 _ | assumption)); (conv => whnf))
        | ((with_reducible refine @And.intro (¬ (_ = _)) _ ?_ ?_); (· first | assumption | (with_reducible assumption)); (conv => whnf))
        | (refine hX _ _ _ _ _ _ ?_; (conv => whnf); fail_if_success show False)
        | (rw [t_si]; (conv => whnf))
        | (refine ⟨_, rfl, ?_⟩; (conv => whnf))
        | (refine ⟨_, _, rfl, ?_⟩; (conv => whnf))
        | (refine ⟨_, _, _, rfl, ?_⟩; (conv => whnf))
        | (refine ⟨_, _, _, _, rfl, ?_⟩; (conv => whnf))
        | fail)
      refine And.intro (fun c => ?_) (fun c => ?_) <;> (conv => whnf)
      · have : j = t_a J := Nat.le_antisymm j1 (t_kge ha c (by omega) (by omega))
        subst this
        have nx := ih (k + 1) (by omega) (by omega) (some (.int (g_lgh (tG J) x k (t_a J)))) (some (.int (nI (t_a J)))) (Or.inr ⟨_, rfl⟩) (Or.inr ⟨_, rfl⟩)
        rw [g_fair, t_sum_s, show gs (gnow (tG J)) k = J 36 (9 + k) from tA_gs (by omega), show gacts (tG J) = t_a J from rfl] at nx
        clear ih jh
        repeat' (first
          | ((with_reducible refine @And.intro (vp_in _ _) _ ?_ ?_); (· (first | with_reducible assumption | ((with_reducible refine t_vin ?_); decide) | ((with_reducible refine vp_in_nI ?_ ?_) <;> first | omega | decide) | (simp (disch := omega) only [xl_n, xl_m, nI_dec, nI_sb, nI_add, pk_mul]; (with_reducible refine vp_in_nI ?_ ?_) <;> first | omega | decide))); (conv => whnf))
          | (refine And.intro (by first | with_reducible assumption | exact (show tL _ = _ from rfl) | decide) ?_; (conv => whnf))
          | ((with_reducible refine @And.intro (_ = _) _ ?_ ?_); (· rfl); (conv => whnf))
          | ((with_reducible refine @And.intro (@LE.le Nat _ _ _) _ ?_ ?_); (· (first | exact Nat.zero_le _ | exact Nat.le_of_ble_eq_true rfl | omega)); (conv => whnf))
          | ((with_reducible refine @And.intro (@LT.lt Nat _ _ _) _ ?_ ?_); (· omega); (conv => whnf))
          | ((with_reducible refine @And.intro (∃ _, _ = _) _ ?_ ?_); (· exact ⟨_, rfl⟩); (conv => whnf))
          | ((with_reducible refine @And.intro (_ ∨ _) _ ?_ ?_); (· (first | exact Or.inl rfl | exact Or.inr rfl | exact t_b01 _ | assumption)); (conv => whnf))
          | ((with_reducible refine @And.intro (¬ (_ = _)) _ ?_ ?_); (· first | assumption | (with_reducible assumption)); (conv => whnf))
          | (refine hX _ _ _ _ _ _ ?_; (conv => whnf); fail_if_success show False)
          | (rw [t_si]; (conv => whnf))
          | (refine ⟨_, rfl, ?_⟩; (conv => whnf))
          | (refine ⟨_, _, rfl, ?_⟩; (conv => whnf))
          | (refine ⟨_, _, _, rfl, ?_⟩; (conv => whnf))
          | (refine ⟨_, _, _, _, rfl, ?_⟩; (conv => whnf))
          | (refine And.intro (fun c => ?_) (fun c => ?_) <;> (first | (exact absurd c (by decide +kernel)) | (conv => whnf)))
          | fail)
        clear hX hG hQ hQ1
        simp (disch := omega) only [xl_n, xl_m, nI_dec, nI_sb, xl_0, xl_1, tW_i, t_bn0, t_bn1, Classical.not_not, t_lt, nI_add, nI_1, pk_mul, nI_clamp, t_si, nI_eq, nI_leI, nM_ne, nM_ne, xm_set, xm_lv0, xm_psh] at *
        exact nx
      · have hj : j < t_a J := t_klt ha c (by omega)
        have nx := jh (j + 1) (by omega) (by omega)
        rw [g_lgh, t_sum_s, show glaugh (tG J) j = J (150 + j) 0 from if_pos hj] at nx
        clear ih jh
        repeat' (first
          | ((with_reducible refine @And.intro (vp_in _ _) _ ?_ ?_); (· (first | with_reducible assumption | ((with_reducible refine t_vin ?_); decide) | ((with_reducible refine vp_in_nI ?_ ?_) <;> first | omega | decide) | (simp (disch := omega) only [xl_n, xl_m, nI_dec, nI_sb, nI_add, pk_mul]; (with_reducible refine vp_in_nI ?_ ?_) <;> first | omega | decide))); (conv => whnf))
          | (refine And.intro (by first | with_reducible assumption | exact (show tL _ = _ from rfl) | decide) ?_; (conv => whnf))
          | ((with_reducible refine @And.intro (_ = _) _ ?_ ?_); (· rfl); (conv => whnf))
          | ((with_reducible refine @And.intro (@LE.le Nat _ _ _) _ ?_ ?_); (· (first | exact Nat.zero_le _ | exact Nat.le_of_ble_eq_true rfl | omega)); (conv => whnf))
          | ((with_reducible refine @And.intro (@LT.lt Nat _ _ _) _ ?_ ?_); (· omega); (conv => whnf))
          | ((with_reducible refine @And.intro (∃ _, _ = _) _ ?_ ?_); (· exact ⟨_, rfl⟩); (conv => whnf))
          | ((with_reducible refine @And.intro (_ ∨ _) _ ?_ ?_); (· (first | exact Or.inl rfl | exact Or.inr rfl | exact t_b01 _ | assumption)); (conv => whnf))
          | ((with_reducible refine @And.intro (¬ (_ = _)) _ ?_ ?_); (· first | assumption | (with_reducible assumption)); (conv => whnf))
          | (refine hX _ _ _ _ _ _ ?_; (conv => whnf); fail_if_success show False)
          | (rw [t_si]; (conv => whnf))
          | (refine ⟨_, rfl, ?_⟩; (conv => whnf))
          | (refine ⟨_, _, rfl, ?_⟩; (conv => whnf))
          | (refine ⟨_, _, _, rfl, ?_⟩; (conv => whnf))
          | (refine ⟨_, _, _, _, rfl, ?_⟩; (conv => whnf))
          | (rw [t_l150 (by first | with_reducible assumption | omega | exact vp_lt (by assumption) | (rw [nI_clamp (by omega)]; omega))]; (conv => whnf))
          | (refine And.intro (fun c => ?_) (fun c => ?_) <;> (first | (exact absurd c (by decide +kernel)) | (conv => whnf)))
          | fail)
        all_goals clear hX hG hQ hQ1
        all_goals simp (disch := omega) only [xl_n, xl_m, nI_dec, nI_sb, xl_0, xl_1, tW_i, t_bn0, t_bn1, Classical.not_not, t_lt, nI_add, nI_1, pk_mul, nI_clamp, t_si, nI_eq, nI_leI, nM_ne, nM_ne, xm_set, xm_lv0, xm_psh] at *
        all_goals simpa [*, g_lgh] using nx
    rcases ho with rfl | ⟨z, rfl⟩
    all_goals rcases ho' with rfl | ⟨z', rfl⟩
    all_goals
      refine hG _ _ _ _ _ _ ?_
      (conv => whnf)
      repeat' (first
        | ((with_reducible refine @And.intro (vp_in _ _) _ ?_ ?_); (· (first | with_reducible assumption | ((with_reducible refine t_vin ?_); decide) | ((with_reducible refine vp_in_nI ?_ ?_) <;> first | omega | decide) | (simp (disch := omega) only [xl_n, xl_m, nI_dec, nI_sb, nI_add, pk_mul]; (with_reducible refine vp_in_nI ?_ ?_) <;> first | omega | decide))); (conv => whnf))
        | (refine And.intro (by first | with_reducible assumption | exact (show tL _ = _ from rfl) | decide) ?_; (conv => whnf))
        | ((with_reducible refine @And.intro (_ = _) _ ?_ ?_); (· rfl); (conv => whnf))
        | ((with_reducible refine @And.intro (@LE.le Nat _ _ _) _ ?_ ?_); (· (first | exact Nat.zero_le _ | exact Nat.le_of_ble_eq_true rfl | omega)); (conv => whnf))
        | ((with_reducible refine @And.intro (@LT.lt Nat _ _ _) _ ?_ ?_); (· omega); (conv => whnf))
        | ((with_reducible refine @And.intro (∃ _, _ = _) _ ?_ ?_); (· exact ⟨_, rfl⟩); (conv => whnf))
        | ((with_reducible refine @And.intro (_ ∨ _) _ ?_ ?_); (· (first | exact Or.inl rfl | exact Or.inr rfl | exact t_b01 _ | assumption)); (conv => whnf))
        | ((with_reducible refine @And.intro (¬ (_ = _)) _ ?_ ?_); (· first | assumption | (with_reducible assumption)); (conv => whnf))
        | (refine hX _ _ _ _ _ _ ?_; (conv => whnf); fail_if_success show False)
        | (rw [t_si]; (conv => whnf))
        | (refine ⟨_, rfl, ?_⟩; (conv => whnf))
        | (refine ⟨_, _, rfl, ?_⟩; (conv => whnf))
        | (refine ⟨_, _, _, rfl, ?_⟩; (conv => whnf))
        | (refine ⟨_, _, _, _, rfl, ?_⟩; (conv => whnf))
        | fail)
      refine And.intro (fun c => ?_) (fun c => ?_) <;> (conv => whnf)
      · repeat' (first
          | ((with_reducible refine @And.intro (vp_in _ _) _ ?_ ?_); (· (first | with_reducible assumption | ((with_reducible refine t_vin ?_); decide) | ((with_reducible refine vp_in_nI ?_ ?_) <;> first | omega | decide) | (simp (disch := omega) only [xl_n, xl_m, nI_dec, nI_sb, nI_add, pk_mul]; (with_reducible refine vp_in_nI ?_ ?_) <;> first | omega | decide))); (conv => whnf))
          | (refine And.intro (by first | with_reducible assumption | exact (show tL _ = _ from rfl) | decide) ?_; (conv => whnf))
          | ((with_reducible refine @And.intro (_ = _) _ ?_ ?_); (· rfl); (conv => whnf))
          | ((with_reducible refine @And.intro (@LE.le Nat _ _ _) _ ?_ ?_); (· (first | exact Nat.zero_le _ | exact Nat.le_of_ble_eq_true rfl | omega)); (conv => whnf))
          | ((with_reducible refine @And.intro (@LT.lt Nat _ _ _) _ ?_ ?_); (· omega); (conv => whnf))
          | ((with_reducible refine @And.intro (∃ _, _ = _) _ ?_ ?_); (· exact ⟨_, rfl⟩); (conv => whnf))
          | ((with_reducible refine @And.intro (_ ∨ _) _ ?_ ?_); (· (first | exact Or.inl rfl | exact Or.inr rfl | exact t_b01 _ | assumption)); (conv => whnf))
          | ((with_reducible refine @And.intro (¬ (_ = _)) _ ?_ ?_); (· first | assumption | (with_reducible assumption)); (conv => whnf))
          | (refine hX _ _ _ _ _ _ ?_; (conv => whnf); fail_if_success show False)
          | (rw [t_si]; (conv => whnf))
          | (refine ⟨_, rfl, ?_⟩; (conv => whnf))
          | (refine ⟨_, _, rfl, ?_⟩; (conv => whnf))
          | (refine ⟨_, _, _, rfl, ?_⟩; (conv => whnf))
          | (refine ⟨_, _, _, _, rfl, ?_⟩; (conv => whnf))
          | (refine And.intro (fun c => ?_) (fun c => ?_) <;> (first | (exact absurd c (by decide +kernel)) | (conv => whnf)))
          | fail)
        have : k = t_p J := Nat.le_antisymm h1 (t_kge hm c (by omega) (by omega))
        subst this
        exact t_ask (hQ1 hin) hg t_sp.rf h01 rfl
      · have hk : k < t_p J := t_klt hm c (by omega)
        repeat' (first
          | ((with_reducible refine @And.intro (vp_in _ _) _ ?_ ?_); (· (first | with_reducible assumption | ((with_reducible refine t_vin ?_); decide) | ((with_reducible refine vp_in_nI ?_ ?_) <;> first | omega | decide) | (simp (disch := omega) only [xl_n, xl_m, nI_dec, nI_sb, nI_add, pk_mul]; (with_reducible refine vp_in_nI ?_ ?_) <;> first | omega | decide))); (conv => whnf))
          | (refine And.intro (by first | with_reducible assumption | exact (show tL _ = _ from rfl) | decide) ?_; (conv => whnf))
          | ((with_reducible refine @And.intro (_ = _) _ ?_ ?_); (· rfl); (conv => whnf))
          | ((with_reducible refine @And.intro (@LE.le Nat _ _ _) _ ?_ ?_); (· (first | exact Nat.zero_le _ | exact Nat.le_of_ble_eq_true rfl | omega)); (conv => whnf))
          | ((with_reducible refine @And.intro (@LT.lt Nat _ _ _) _ ?_ ?_); (· omega); (conv => whnf))
          | ((with_reducible refine @And.intro (∃ _, _ = _) _ ?_ ?_); (· exact ⟨_, rfl⟩); (conv => whnf))
          | ((with_reducible refine @And.intro (_ ∨ _) _ ?_ ?_); (· (first | exact Or.inl rfl | exact Or.inr rfl | exact t_b01 _ | assumption)); (conv => whnf))
          | ((with_reducible refine @And.intro (¬ (_ = _)) _ ?_ ?_); (· first | assumption | (with_reducible assumption)); (conv => whnf))
          | (refine hX _ _ _ _ _ _ ?_; (conv => whnf); fail_if_success show False)
          | (rw [t_si]; (conv => whnf))
          | (refine ⟨_, rfl, ?_⟩; (conv => whnf))
          | (refine ⟨_, _, rfl, ?_⟩; (conv => whnf))
          | (refine ⟨_, _, _, rfl, ?_⟩; (conv => whnf))
          | (refine ⟨_, _, _, _, rfl, ?_⟩; (conv => whnf))
          | (refine And.intro (fun c => ?_) (fun c => ?_) <;> (first | (exact absurd c (by decide +kernel)) | (conv => whnf)))
          | fail)
        exact inner hk 0 (Nat.zero_le _)
  repeat' (first
    | ((with_reducible refine @And.intro (vp_in _ _) _ ?_ ?_); (· (first | with_reducible assumption | ((with_reducible refine t_vin ?_); decide) | ((with_reducible refine vp_in_nI ?_ ?_) <;> first | omega | decide) | (simp (disch := omega) only [xl_n, xl_m, nI_dec, nI_sb, nI_add, pk_mul]; (with_reducible refine vp_in_nI ?_ ?_) <;> first | omega | decide))); (conv => whnf))
    | (refine And.intro (by first | with_reducible assumption | exact (show tL _ = _ from rfl) | decide) ?_; (conv => whnf))
    | ((with_reducible refine @And.intro (_ = _) _ ?_ ?_); (· rfl); (conv => whnf))
    | ((with_reducible refine @And.intro (@LE.le Nat _ _ _) _ ?_ ?_); (· (first | exact Nat.zero_le _ | exact Nat.le_of_ble_eq_true rfl | omega)); (conv => whnf))
    | ((with_reducible refine @And.intro (@LT.lt Nat _ _ _) _ ?_ ?_); (· omega); (conv => whnf))
    | ((with_reducible refine @And.intro (∃ _, _ = _) _ ?_ ?_); (· exact ⟨_, rfl⟩); (conv => whnf))
    | ((with_reducible refine @And.intro (_ ∨ _) _ ?_ ?_); (· (first | exact Or.inl rfl | exact Or.inr rfl | exact t_b01 _ | assumption)); (conv => whnf))
    | ((with_reducible refine @And.intro (¬ (_ = _)) _ ?_ ?_); (· first | assumption | (with_reducible assumption)); (conv => whnf))
    | (refine hX _ _ _ _ _ _ ?_; (conv => whnf); fail_if_success show False)
    | (rw [t_si]; (conv => whnf))
    | (refine ⟨_, rfl, ?_⟩; (conv => whnf))
    | (refine ⟨_, _, rfl, ?_⟩; (conv => whnf))
    | (refine ⟨_, _, _, rfl, ?_⟩; (conv => whnf))
    | (refine ⟨_, _, _, _, rfl, ?_⟩; (conv => whnf))
    | (refine And.intro (fun c => ?_) (fun c => ?_) <;> (first | (exact absurd c (by decide +kernel)) | (conv => whnf)))
    | fail)
  · have hin : t_in x (nI 0) ((nI 1 <<< (J 12 2 &&& 31)) - nI 1) = true := by
      clear hX hG hQ hQ1 loop
      simp (disch := omega) only [xl_n, xl_m, nI_dec, nI_sb, xl_0, xl_1, tW_i, t_bn0, t_bn1, Classical.not_not, t_lt, nI_add, nI_1, pk_mul, nI_clamp, t_si, nI_eq, nI_leI, nM_ne, nM_ne] at *
      simp_all
    exact loop hin 0 (Nat.zero_le _) none none (Or.inl rfl) (Or.inl rfl)
  · have hin : t_in x (nI 0) ((nI 1 <<< (J 12 2 &&& 31)) - nI 1) = false := by
      clear hX hG hQ hQ1 loop
      simp (disch := omega) only [xl_n, xl_m, nI_dec, nI_sb, xl_0, xl_1, tW_i, t_bn0, t_bn1, Classical.not_not, t_lt, nI_add, nI_1, pk_mul, nI_clamp, t_si, nI_eq, nI_leI, nM_ne, nM_ne] at *
      simp_all
    rw [ha] at hin
    exact t_ref' hQ hg h01 hin (by decide) rfl rfl
theorem ct_X11_fair {Iv : xI} (hI : xm_good Iv) : xm_Ct Iv yX11_fair (ws_ yX11_fair cX11_fair 6 (some .int)) 2 0 0 S_X11_fair := xm_enter (rt := 0) (init := false) (by decide +kernel) rfl (fun h => by cases h) (Or.inl ⟨rfl, rfl⟩) (oX11_fair hI) body_X11_fair
theorem cv_X11_fair {Iv : xI} {own : String} {cc : ByteArray} {fr pc idx : Nat} (hI : xm_good Iv) (hdg : decode cc pc = .ok (.invokevirtual idx, 3)) (hl : xm_ml own idx yX11_fair) (hfr : 2 < fr) : xm_CallOK Iv own cc fr pc (pc + 3) 2 0 0 (xm_this 8 S_X11_fair) := xm_callV 8 hI (ct_X11_fair hI) hdg hl q2549 q2550 q145 q2551 rfl rfl (by decide +kernel) hfr (by decide)
