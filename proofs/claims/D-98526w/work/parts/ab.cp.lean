/-! ===== the component: hand, puppet, net, slack, dropped ===== -/
set_option maxRecDepth 100000
abbrev bX1_hand_0 : List xE := [(.aload_n 0, 1, 0, 0, 0), (.iload_n 1, 2, 0, 0, 0), (.invokevirtual 217, 5, 0, 0, 9), (.aload_n 0, 6, 0, 0, 0), (.iload_n 2, 7, 0, 0, 0), (.ifCond .lt 12, 10, 0, 19, 0), (.iload_n 2, 11, 0, 0, 0), (.iconst 5, 12, 0, 0, 0), (.if_icmp .gt 7, 15, 0, 19, 0), (.iconst 1, 16, 0, 0, 0), (.goto 4, 19, 0, 20, 0)]
abbrev bX1_hand_19 : List xE := [(.iconst 0, 20, 0, 0, 0)]
abbrev bX1_hand_20 : List xE := [(.invokevirtual 160, 23, 0, 1, 9), (.iload_n 2, 24, 0, 0, 0), (.tableswitch 85 0 4 #[36, 46, 56, 66, 76], 60, 0, 0, 0)]
abbrev bX1_hand_60 : List xE := [(.aload_n 0, 61, 0, 0, 0), (.getfield 31, 64, 0, 0, 1), (.getfield 117, 67, 1, 0, 1), (.iload_n 1, 68, 0, 0, 0), (.iaload, 69, 0, 0, 0), (.ireturn, 70, 0, 0, 0)]
abbrev bX1_hand_70 : List xE := [(.aload_n 0, 71, 0, 0, 0), (.getfield 31, 74, 0, 0, 1), (.getfield 220, 77, 1, 1, 1), (.iload_n 1, 78, 0, 0, 0), (.iaload, 79, 0, 0, 0), (.ireturn, 80, 0, 0, 0)]
abbrev bX1_hand_80 : List xE := [(.aload_n 0, 81, 0, 0, 0), (.getfield 31, 84, 0, 0, 1), (.getfield 223, 87, 1, 2, 1), (.iload_n 1, 88, 0, 0, 0), (.iaload, 89, 0, 0, 0), (.ireturn, 90, 0, 0, 0)]
abbrev bX1_hand_90 : List xE := [(.aload_n 0, 91, 0, 0, 0), (.getfield 58, 94, 0, 5, 1), (.getfield 226, 97, 7, 0, 1), (.iload_n 1, 98, 0, 0, 0), (.iaload, 99, 0, 0, 0), (.ireturn, 100, 0, 0, 0)]
abbrev bX1_hand_100 : List xE := [(.aload_n 0, 101, 0, 0, 0), (.getfield 58, 104, 0, 5, 1), (.iload_n 1, 105, 0, 0, 0), (.invokevirtual 229, 108, 0, 2, 9), (.ireturn, 109, 0, 0, 0)]
abbrev bX1_hand_109 : List xE := [(.iconst 0, 110, 0, 0, 0), (.aload_n 0, 111, 0, 0, 0), (.getfield 58, 114, 0, 5, 1), (.getfield 201, 117, 7, 6, 0), (.aload_n 0, 118, 0, 0, 0), (.getfield 31, 121, 0, 0, 1), (.getfield 220, 124, 1, 1, 1), (.iload_n 1, 125, 0, 0, 0), (.iaload, 126, 0, 0, 0), (.isub, 127, 0, 0, 0), (.invokestatic 232, 130, 0, 3, 9), (.ireturn, 131, 0, 0, 0)]
abbrev kX1_hand : List (Nat × List xE) := [(0, bX1_hand_0), (19, bX1_hand_19), (20, bX1_hand_20), (60, bX1_hand_60), (70, bX1_hand_70), (80, bX1_hand_80), (90, bX1_hand_90), (100, bX1_hand_100), (109, bX1_hand_109)]
abbrev lX1_hand : List (Nat × Nat × Nat × xS) := [(2, 1, 6, xm_this 0 S_X1_needHand), (2, 1, 6, xm_this 0 S_X1_need), (2, 0, 0, xm_this 7 S_X10_workedBy), (2, 0, 0, S_J12_max)]
theorem oX1_hand_0  : xm_okb cI RX1 cX1_hand false 8 lX1_hand bX1_hand_0 0 := xo_0 dX1_hand_0 rfl trivial (xo_0 dX1_hand_1 rfl trivial (xo_c rfl (cv_X1_needHand dX1_hand_2 (Or.inl q1576) (by decide)) (xo_0 dX1_hand_5 rfl trivial (xo_0 dX1_hand_6 rfl trivial (xo_0 dX1_hand_7 rfl rfl (xo_0 dX1_hand_10 rfl trivial (xo_0 dX1_hand_11 rfl trivial (xo_0 dX1_hand_12 rfl rfl (xo_0 dX1_hand_15 rfl trivial (xo_0 dX1_hand_16 rfl rfl (xo_n)))))))))))
theorem oX1_hand_19  : xm_okb cI RX1 cX1_hand false 8 lX1_hand bX1_hand_19 19 := xo_0 dX1_hand_19 rfl trivial (xo_n)
theorem oX1_hand_20  : xm_okb cI RX1 cX1_hand false 8 lX1_hand bX1_hand_20 20 := xo_c rfl (cv_X1_need dX1_hand_20 (Or.inl q1030) (by decide)) (xo_0 dX1_hand_23 rfl trivial (xo_s dX1_hand_24 rfl (xo_tableswitch (by decide +kernel)) (xo_n)))
theorem oX1_hand_60  : xm_okb cI RX1 cX1_hand false 8 lX1_hand bX1_hand_60 60 := xo_0 dX1_hand_60 rfl trivial (xo_1 dX1_hand_61 rfl (xm_fg_of (Or.inl q716) (by decide) rfl (by decide) rfl rfl (Or.inl rfl) rfl) (xo_1 dX1_hand_64 rfl (xm_fg_of (Or.inr ⟨_, q516⟩) (by decide) rfl (by decide) rfl rfl (Or.inl rfl) rfl) (xo_0 dX1_hand_67 rfl trivial (xo_0 dX1_hand_68 rfl trivial (xo_0 dX1_hand_69 rfl trivial (xo_n))))))
theorem oX1_hand_70  : xm_okb cI RX1 cX1_hand false 8 lX1_hand bX1_hand_70 70 := xo_0 dX1_hand_70 rfl trivial (xo_1 dX1_hand_71 rfl (xm_fg_of (Or.inl q716) (by decide) rfl (by decide) rfl rfl (Or.inl rfl) rfl) (xo_1 dX1_hand_74 rfl (xm_fg_of (Or.inr ⟨_, q521⟩) (by decide) rfl (by decide) rfl rfl (Or.inl rfl) rfl) (xo_0 dX1_hand_77 rfl trivial (xo_0 dX1_hand_78 rfl trivial (xo_0 dX1_hand_79 rfl trivial (xo_n))))))
theorem oX1_hand_80  : xm_okb cI RX1 cX1_hand false 8 lX1_hand bX1_hand_80 80 := xo_0 dX1_hand_80 rfl trivial (xo_1 dX1_hand_81 rfl (xm_fg_of (Or.inl q716) (by decide) rfl (by decide) rfl rfl (Or.inl rfl) rfl) (xo_1 dX1_hand_84 rfl (xm_fg_of (Or.inr ⟨_, q525⟩) (by decide) rfl (by decide) rfl rfl (Or.inl rfl) rfl) (xo_0 dX1_hand_87 rfl trivial (xo_0 dX1_hand_88 rfl trivial (xo_0 dX1_hand_89 rfl trivial (xo_n))))))
theorem oX1_hand_90  : xm_okb cI RX1 cX1_hand false 8 lX1_hand bX1_hand_90 90 := xo_0 dX1_hand_90 rfl trivial (xo_1 dX1_hand_91 rfl (xm_fg_of (Or.inl q724) (by decide) rfl (by decide) rfl rfl (Or.inl rfl) rfl) (xo_1 dX1_hand_94 rfl (xm_fg_of (Or.inr ⟨_, q663⟩) (by decide) rfl (by decide) rfl rfl (Or.inl rfl) rfl) (xo_0 dX1_hand_97 rfl trivial (xo_0 dX1_hand_98 rfl trivial (xo_0 dX1_hand_99 rfl trivial (xo_n))))))
theorem oX1_hand_100  : xm_okb cI RX1 cX1_hand false 8 lX1_hand bX1_hand_100 100 := xo_0 dX1_hand_100 rfl trivial (xo_1 dX1_hand_101 rfl (xm_fg_of (Or.inl q724) (by decide) rfl (by decide) rfl rfl (Or.inl rfl) rfl) (xo_0 dX1_hand_104 rfl trivial (xo_c rfl (cv_X10_workedBy dX1_hand_105 (Or.inl q996) (by decide)) (xo_0 dX1_hand_108 rfl trivial (xo_n)))))
theorem oX1_hand_109  : xm_okb cI RX1 cX1_hand false 8 lX1_hand bX1_hand_109 109 := xo_0 dX1_hand_109 rfl trivial (xo_0 dX1_hand_110 rfl trivial (xo_1 dX1_hand_111 rfl (xm_fg_of (Or.inl q724) (by decide) rfl (by decide) rfl rfl (Or.inl rfl) rfl) (xo_0 dX1_hand_114 rfl (xm_fg_of (Or.inr ⟨_, q675⟩) (by decide) rfl (by decide) rfl rfl (Or.inl rfl) rfl) (xo_0 dX1_hand_117 rfl trivial (xo_1 dX1_hand_118 rfl (xm_fg_of (Or.inl q716) (by decide) rfl (by decide) rfl rfl (Or.inl rfl) rfl) (xo_1 dX1_hand_121 rfl (xm_fg_of (Or.inr ⟨_, q521⟩) (by decide) rfl (by decide) rfl rfl (Or.inl rfl) rfl) (xo_0 dX1_hand_124 rfl trivial (xo_0 dX1_hand_125 rfl trivial (xo_0 dX1_hand_126 rfl trivial (xo_c rfl (xc_max dX1_hand_127 q1599 (by decide)) (xo_0 dX1_hand_130 rfl trivial (xo_n))))))))))))
theorem oX1_hand  : ∀ q ∈ kX1_hand, xm_okb cI RX1 cX1_hand false 8 lX1_hand q.2 q.1 := by
  intro q hq
  simp only [List.mem_cons, List.not_mem_nil, or_false] at hq
  rcases hq with rfl | rfl | rfl | rfl | rfl | rfl | rfl | rfl | rfl
  · exact oX1_hand_0  
  · exact oX1_hand_19  
  · exact oX1_hand_20  
  · exact oX1_hand_60  
  · exact oX1_hand_70  
  · exact oX1_hand_80  
  · exact oX1_hand_90  
  · exact oX1_hand_100  
  · exact oX1_hand_109  
def S_X1_hand : xS := cU fun as P Z I Q QX => ∃ a b L, as = [.ref 0, .int a, .int b] ∧ c_good P Z I L ∧ c_P P Z L (cG P I L) Q QX (q_hand (cG P I L) a b)
theorem body_X1_hand : xm_Body 3 0 2 12 [] lX1_hand kX1_hand S_X1_hand := by
  intro X avs w Q QX hX0 hS
  have hG := xm_go [] hX0
  have hX := xm_go [] hX0
  clear hX0
  obtain ⟨P, Z, I, rfl, a, b, L, rfl, hg, hQ⟩ := hS
  have hok := hg.ok
  obtain ⟨hn, h9, hm, h8⟩ := id hok
  have h5 := c_5 (P := P)
  have ht := hg.now
  have h09 := hg.2.2.2.2.1
  refine ⟨rfl, ?_⟩
  repeat' (first
    | ((with_reducible refine @And.intro (vp_in _ _) _ ?_ ?_); (· (first | with_reducible assumption | ((with_reducible refine t_vin ?_); decide) | ((with_reducible refine vp_in_nI ?_ ?_) <;> first | omega | decide) | (simp (disch := omega) only [xl_n, xl_m, nI_dec, nI_sb, nI_add, pk_mul]; (with_reducible refine vp_in_nI ?_ ?_) <;> first | omega | decide))); (conv => whnf))
    | (refine And.intro (by first | with_reducible assumption | exact (show cL _ _ = _ from rfl) | decide) ?_; (conv => whnf))
    | ((with_reducible refine @And.intro (_ = _) _ ?_ ?_); (· rfl); (conv => whnf))
    | ((with_reducible refine @And.intro (@LE.le Nat _ _ _) _ ?_ ?_); (· (first | exact Nat.zero_le _ | exact Nat.le_of_ble_eq_true rfl | omega)); (conv => whnf))
    | ((with_reducible refine @And.intro (@LT.lt Nat _ _ _) _ ?_ ?_); (· omega); (conv => whnf))
    | ((with_reducible refine @And.intro (∃ _, _ = _) _ ?_ ?_); (· exact ⟨_, rfl⟩); (conv => whnf))
    | ((with_reducible refine @And.intro (_ ∨ _) _ ?_ ?_); (· (first | exact Or.inl rfl | exact Or.inr rfl | exact t_b01 _ | assumption)); (conv => whnf))
    | ((with_reducible refine @And.intro (¬ (_ = _)) _ ?_ ?_); (· first | assumption | (with_reducible assumption)); (conv => whnf))
    | (refine hX _ _ _ _ _ _ ?_; (conv => whnf); fail_if_success show False)
    | (rw [c_si]; (conv => whnf))
    | (refine ⟨_, rfl, ?_⟩; (conv => whnf))
    | (refine ⟨_, _, rfl, ?_⟩; (conv => whnf))
    | (refine ⟨_, _, _, rfl, ?_⟩; (conv => whnf))
    | (refine ⟨_, _, _, _, rfl, ?_⟩; (conv => whnf))
    | (refine ⟨a,rfl,hok,?_⟩; (conv => whnf))
    | fail)
  refine ⟨fun e => ?_, fun e x hx => ?_⟩
  · obtain ⟨h, hh, rfl⟩ := t_in_of (by omega) e
    have f : g_isH (cG P I L) (nI h) = true := e
    have ek : (nI h).toNatClampNeg = h := nI_clamp (by omega)
    rw [q_hand, f, g_ck_t] at hQ
    (conv => whnf)
    rcases c_rc b 0 5 (A := 0) (B := Int32.ofInt 5) (by decide +kernel) (by decide +kernel) (by omega) (by omega) with ⟨n, -, hn6, rfl, e1⟩ | ⟨e1, h1⟩ | ⟨e1, h1, h2⟩
    · have q : n = 0 ∨ n = 1 ∨ n = 2 ∨ n = 3 ∨ n = 4 ∨ n = 5 := by omega
      rw [e1, g_ck_t, nI_clamp (by omega), nI_clamp (by omega)] at hQ
      rcases q with rfl | rfl | rfl | rfl | rfl | rfl
      all_goals
        repeat' (first
          | ((with_reducible refine @And.intro (vp_in _ _) _ ?_ ?_); (· (first | with_reducible assumption | ((with_reducible refine t_vin ?_); decide) | ((with_reducible refine vp_in_nI ?_ ?_) <;> first | omega | decide) | (simp (disch := omega) only [xl_n, xl_m, nI_dec, nI_sb, nI_add, pk_mul]; (with_reducible refine vp_in_nI ?_ ?_) <;> first | omega | decide))); (conv => whnf))
          | (refine And.intro (by first | with_reducible assumption | exact (show cL _ _ = _ from rfl) | decide) ?_; (conv => whnf))
          | ((with_reducible refine @And.intro (_ = _) _ ?_ ?_); (· rfl); (conv => whnf))
          | ((with_reducible refine @And.intro (@LE.le Nat _ _ _) _ ?_ ?_); (· (first | exact Nat.zero_le _ | exact Nat.le_of_ble_eq_true rfl | omega)); (conv => whnf))
          | ((with_reducible refine @And.intro (@LT.lt Nat _ _ _) _ ?_ ?_); (· omega); (conv => whnf))
          | ((with_reducible refine @And.intro (∃ _, _ = _) _ ?_ ?_); (· exact ⟨_, rfl⟩); (conv => whnf))
          | ((with_reducible refine @And.intro (_ ∨ _) _ ?_ ?_); (· (first | exact Or.inl rfl | exact Or.inr rfl | exact t_b01 _ | assumption)); (conv => whnf))
          | ((with_reducible refine @And.intro (¬ (_ = _)) _ ?_ ?_); (· first | assumption | (with_reducible assumption)); (conv => whnf))
          | (refine hX _ _ _ _ _ _ ?_; (conv => whnf); fail_if_success show False)
          | (rw [c_si]; (conv => whnf))
          | (refine ⟨_, rfl, ?_⟩; (conv => whnf))
          | (refine ⟨_, _, rfl, ?_⟩; (conv => whnf))
          | (refine ⟨_, _, _, rfl, ?_⟩; (conv => whnf))
          | (refine ⟨_, _, _, _, rfl, ?_⟩; (conv => whnf))
          | (refine ⟨true,rfl,?_⟩; (conv => whnf))
          | (refine ⟨false,rfl,?_⟩; (conv => whnf))
          | (refine And.intro (fun c => ?_) (fun c => ?_) <;> (first | (exact absurd c (by decide +kernel)) | (conv => whnf)))
          | fail)
        simp (disch := omega) [xm_tsw, xm_tgt, xl_n, nI_eq, nI_toInt]
        repeat' (first
          | ((with_reducible refine @And.intro (vp_in _ _) _ ?_ ?_); (· (first | with_reducible assumption | ((with_reducible refine t_vin ?_); decide) | ((with_reducible refine vp_in_nI ?_ ?_) <;> first | omega | decide) | (simp (disch := omega) only [xl_n, xl_m, nI_dec, nI_sb, nI_add, pk_mul]; (with_reducible refine vp_in_nI ?_ ?_) <;> first | omega | decide))); (conv => whnf))
          | (refine And.intro (by first | with_reducible assumption | exact (show cL _ _ = _ from rfl) | decide) ?_; (conv => whnf))
          | ((with_reducible refine @And.intro (_ = _) _ ?_ ?_); (· rfl); (conv => whnf))
          | ((with_reducible refine @And.intro (@LE.le Nat _ _ _) _ ?_ ?_); (· (first | exact Nat.zero_le _ | exact Nat.le_of_ble_eq_true rfl | omega)); (conv => whnf))
          | ((with_reducible refine @And.intro (@LT.lt Nat _ _ _) _ ?_ ?_); (· omega); (conv => whnf))
          | ((with_reducible refine @And.intro (∃ _, _ = _) _ ?_ ?_); (· exact ⟨_, rfl⟩); (conv => whnf))
          | ((with_reducible refine @And.intro (_ ∨ _) _ ?_ ?_); (· (first | exact Or.inl rfl | exact Or.inr rfl | exact t_b01 _ | assumption)); (conv => whnf))
          | ((with_reducible refine @And.intro (¬ (_ = _)) _ ?_ ?_); (· first | assumption | (with_reducible assumption)); (conv => whnf))
          | (refine hX _ _ _ _ _ _ ?_; (conv => whnf); fail_if_success show False)
          | (rw [c_si]; simp (disch := omega) only [xl_n, xl_m, nI_dec, nI_sb, xl_0, xl_1, cW_i, Nat.add_zero, Nat.reduceAdd, Nat.reduceMul, t_bn0, t_bn1, Classical.not_not, t_lt, nI_add, nI_1, pk_mul, nI_clamp, c_si, nI_eq, nI_leI, nM_ne, nM_ne, xm_u2_ne, xm_u2_at, reduceIte, Nat.reduceEqDiff]; (conv => whnf))
          | (refine ⟨_, rfl, ?_⟩; (conv => whnf))
          | (refine ⟨_, _, rfl, ?_⟩; (conv => whnf))
          | (refine ⟨_, _, _, rfl, ?_⟩; (conv => whnf))
          | (refine ⟨_, _, _, _, rfl, ?_⟩; (conv => whnf))
          | (refine ⟨5,h,rfl,h5,hok,?_⟩; (conv => whnf))
          | (rw [c_tl h5]; (conv => whnf))
          | (rw [c_t7 h5]; (conv => whnf))
          | (rw [c_tf h5 (by decide)]; (conv => whnf))
          | (rw [c_t0 h5]; (conv => whnf))
          | (rw [c_t1 h5]; (conv => whnf))
          | (rw [c_t2 h5]; (conv => whnf))
          | (rw [c_t3 h5]; (conv => whnf))
          | (rw [c_t4 h5]; (conv => whnf))
          | (rw [c_t5 h5]; (conv => whnf))
          | (refine And.intro ⟨_, c_tl h5⟩ ?_; (conv => whnf))
          | (refine And.intro (fun c => ?_) (fun c => ?_) <;> (first | (exact absurd c (by decide +kernel)) | (conv => whnf)))
          | fail)
      · refine c_ask hQ hg c_sp.rf ?_
        rw [ek]
        exact (c_limp_M h09 (by omega)).symm.trans (cK_limp (I := I) (L := L) hh).symm
      · refine c_ask hQ hg c_sp.rf ?_
        rw [ek]
        exact (cK_born (I := I) (L := L) hh).symm
      · refine c_ask hQ hg c_sp.rf ?_
        rw [ek]
        exact (cK_dies (I := I) (L := L) hh).symm
      · refine c_ask hQ hg c_sp.rf ?_
        rw [ek]
        show I 50 h = if gd (cA I 5) h = true then nI 2 else if g_al (cK I L) (cA I 5) h = true then nI 1 else nI 0
        rw [ht.2.2.1 h hh]
        by_cases q : gd (cA I 5) h = true
        · rw [if_pos q, if_pos q]
        · rw [if_neg q, if_neg q]
          have q0 : gd (cA I 5) h = false := by simpa using q
          have e : (g_al (cK I L) (cA I 5) h = true) = (I 31 h ≤ I 5 6) := by
            unfold g_al
            rw [q0, cK_born hh, cA_gy]
            simp
          simp only [e]
      · exact c_ask hQ hg c_sp.rf rfl
      · refine c_ask hQ hg c_sp.rf ?_
        rw [ek]
        show _ = t_more (nI 0) (gy (cA I 5) - gborn (cK I L) h)
        rw [cK_born hh]
        rfl
    all_goals
      repeat' (first
        | ((with_reducible refine @And.intro (vp_in _ _) _ ?_ ?_); (· (first | with_reducible assumption | ((with_reducible refine t_vin ?_); decide) | ((with_reducible refine vp_in_nI ?_ ?_) <;> first | omega | decide) | (simp (disch := omega) only [xl_n, xl_m, nI_dec, nI_sb, nI_add, pk_mul]; (with_reducible refine vp_in_nI ?_ ?_) <;> first | omega | decide))); (conv => whnf))
        | (refine And.intro (by first | with_reducible assumption | exact (show cL _ _ = _ from rfl) | decide) ?_; (conv => whnf))
        | ((with_reducible refine @And.intro (_ = _) _ ?_ ?_); (· rfl); (conv => whnf))
        | ((with_reducible refine @And.intro (@LE.le Nat _ _ _) _ ?_ ?_); (· (first | exact Nat.zero_le _ | exact Nat.le_of_ble_eq_true rfl | omega)); (conv => whnf))
        | ((with_reducible refine @And.intro (@LT.lt Nat _ _ _) _ ?_ ?_); (· omega); (conv => whnf))
        | ((with_reducible refine @And.intro (∃ _, _ = _) _ ?_ ?_); (· exact ⟨_, rfl⟩); (conv => whnf))
        | ((with_reducible refine @And.intro (_ ∨ _) _ ?_ ?_); (· (first | exact Or.inl rfl | exact Or.inr rfl | exact t_b01 _ | assumption)); (conv => whnf))
        | ((with_reducible refine @And.intro (¬ (_ = _)) _ ?_ ?_); (· first | assumption | (with_reducible assumption)); (conv => whnf))
        | (refine hX _ _ _ _ _ _ ?_; (conv => whnf); fail_if_success show False)
        | (rw [c_si]; (conv => whnf))
        | (refine ⟨_, rfl, ?_⟩; (conv => whnf))
        | (refine ⟨_, _, rfl, ?_⟩; (conv => whnf))
        | (refine ⟨_, _, _, rfl, ?_⟩; (conv => whnf))
        | (refine ⟨_, _, _, _, rfl, ?_⟩; (conv => whnf))
        | (refine ⟨true,rfl,?_⟩; (conv => whnf))
        | (refine ⟨false,rfl,?_⟩; (conv => whnf))
        | (refine And.intro (fun c => ?_) (fun c => ?_) <;> (first | (exact absurd c (by decide +kernel)) | (exact absurd c (by assumption)) | (exact False.elim (c (by assumption))) | (conv => whnf)))
        | fail)
      intro x hx
      exact c_ref1 hQ hg e1 hx n2_0
  · exact c_ref0 hQ hg e hx n1_0
theorem ct_X1_hand : xm_Ct cI yX1_hand (ws_ yX1_hand cX1_hand 3 (some .int)) 8 2 12 S_X1_hand := xm_enter (rt := 0) (init := false) (by decide +kernel) rfl (fun h => by cases h) (Or.inl ⟨rfl, rfl⟩) (oX1_hand) body_X1_hand
theorem cv_X1_hand {own : String} {cc : ByteArray} {fr pc idx : Nat} (hdg : decode cc pc = .ok (.invokevirtual idx, 3)) (hl : xm_ml own idx yX1_hand) (hfr : 8 < fr) : xm_CallOK cI own cc fr pc (pc + 3) 3 2 12 (xm_this 0 S_X1_hand) := xm_callV 0 cI_good (ct_X1_hand) hdg hl q1573 q1574 q116 q1575 rfl rfl (by decide +kernel) hfr (by decide)
abbrev bX1_puppet_0 : List xE := [(.aload_n 0, 1, 0, 0, 0), (.iload_n 1, 2, 0, 0, 0), (.invokevirtual 238, 5, 0, 0, 9), (.aload_n 0, 6, 0, 0, 0), (.iload_n 2, 7, 0, 0, 0), (.ifCond .lt 12, 10, 0, 19, 0), (.iload_n 2, 11, 0, 0, 0), (.iconst 5, 12, 0, 0, 0), (.if_icmp .gt 7, 15, 0, 19, 0), (.iconst 1, 16, 0, 0, 0), (.goto 4, 19, 0, 20, 0)]
abbrev bX1_puppet_19 : List xE := [(.iconst 0, 20, 0, 0, 0)]
abbrev bX1_puppet_20 : List xE := [(.invokevirtual 160, 23, 0, 1, 9), (.iload_n 2, 24, 0, 0, 0), (.tableswitch 85 0 4 #[36, 46, 56, 66, 76], 60, 0, 0, 0)]
abbrev bX1_puppet_60 : List xE := [(.aload_n 0, 61, 0, 0, 0), (.getfield 31, 64, 0, 0, 1), (.getfield 241, 67, 1, 5, 1), (.iload_n 1, 68, 0, 0, 0), (.iaload, 69, 0, 0, 0), (.ireturn, 70, 0, 0, 0)]
abbrev bX1_puppet_70 : List xE := [(.aload_n 0, 71, 0, 0, 0), (.getfield 31, 74, 0, 0, 1), (.getfield 244, 77, 1, 6, 1), (.iload_n 1, 78, 0, 0, 0), (.iaload, 79, 0, 0, 0), (.ireturn, 80, 0, 0, 0)]
abbrev bX1_puppet_80 : List xE := [(.aload_n 0, 81, 0, 0, 0), (.getfield 58, 84, 0, 5, 1), (.getfield 198, 87, 7, 3, 1), (.iload_n 1, 88, 0, 0, 0), (.iaload, 89, 0, 0, 0), (.ireturn, 90, 0, 0, 0)]
abbrev bX1_puppet_90 : List xE := [(.aload_n 0, 91, 0, 0, 0), (.getfield 58, 94, 0, 5, 1), (.getfield 247, 97, 7, 1, 1), (.iload_n 1, 98, 0, 0, 0), (.iaload, 99, 0, 0, 0), (.ireturn, 100, 0, 0, 0)]
abbrev bX1_puppet_100 : List xE := [(.aload_n 0, 101, 0, 0, 0), (.getfield 58, 104, 0, 5, 1), (.iload_n 1, 105, 0, 0, 0), (.invokevirtual 250, 108, 0, 2, 9), (.ireturn, 109, 0, 0, 0)]
abbrev bX1_puppet_109 : List xE := [(.aload_n 0, 110, 0, 0, 0), (.getfield 58, 113, 0, 5, 1), (.getfield 253, 116, 7, 2, 1), (.iload_n 1, 117, 0, 0, 0), (.iaload, 118, 0, 0, 0), (.ireturn, 119, 0, 0, 0)]
abbrev kX1_puppet : List (Nat × List xE) := [(0, bX1_puppet_0), (19, bX1_puppet_19), (20, bX1_puppet_20), (60, bX1_puppet_60), (70, bX1_puppet_70), (80, bX1_puppet_80), (90, bX1_puppet_90), (100, bX1_puppet_100), (109, bX1_puppet_109)]
abbrev lX1_puppet : List (Nat × Nat × Nat × xS) := [(2, 1, 6, xm_this 0 S_X1_needPuppet), (2, 1, 6, xm_this 0 S_X1_need), (2, 0, 0, xm_this 7 S_X10_lacks)]
theorem oX1_puppet_0  : xm_okb cI RX1 cX1_puppet false 8 lX1_puppet bX1_puppet_0 0 := xo_0 dX1_puppet_0 rfl trivial (xo_0 dX1_puppet_1 rfl trivial (xo_c rfl (cv_X1_needPuppet dX1_puppet_2 (Or.inl q1607) (by decide)) (xo_0 dX1_puppet_5 rfl trivial (xo_0 dX1_puppet_6 rfl trivial (xo_0 dX1_puppet_7 rfl rfl (xo_0 dX1_puppet_10 rfl trivial (xo_0 dX1_puppet_11 rfl trivial (xo_0 dX1_puppet_12 rfl rfl (xo_0 dX1_puppet_15 rfl trivial (xo_0 dX1_puppet_16 rfl rfl (xo_n)))))))))))
theorem oX1_puppet_19  : xm_okb cI RX1 cX1_puppet false 8 lX1_puppet bX1_puppet_19 19 := xo_0 dX1_puppet_19 rfl trivial (xo_n)
theorem oX1_puppet_20  : xm_okb cI RX1 cX1_puppet false 8 lX1_puppet bX1_puppet_20 20 := xo_c rfl (cv_X1_need dX1_puppet_20 (Or.inl q1030) (by decide)) (xo_0 dX1_puppet_23 rfl trivial (xo_s dX1_puppet_24 rfl (xo_tableswitch (by decide +kernel)) (xo_n)))
theorem oX1_puppet_60  : xm_okb cI RX1 cX1_puppet false 8 lX1_puppet bX1_puppet_60 60 := xo_0 dX1_puppet_60 rfl trivial (xo_1 dX1_puppet_61 rfl (xm_fg_of (Or.inl q716) (by decide) rfl (by decide) rfl rfl (Or.inl rfl) rfl) (xo_1 dX1_puppet_64 rfl (xm_fg_of (Or.inr ⟨_, q535⟩) (by decide) rfl (by decide) rfl rfl (Or.inl rfl) rfl) (xo_0 dX1_puppet_67 rfl trivial (xo_0 dX1_puppet_68 rfl trivial (xo_0 dX1_puppet_69 rfl trivial (xo_n))))))
theorem oX1_puppet_70  : xm_okb cI RX1 cX1_puppet false 8 lX1_puppet bX1_puppet_70 70 := xo_0 dX1_puppet_70 rfl trivial (xo_1 dX1_puppet_71 rfl (xm_fg_of (Or.inl q716) (by decide) rfl (by decide) rfl rfl (Or.inl rfl) rfl) (xo_1 dX1_puppet_74 rfl (xm_fg_of (Or.inr ⟨_, q539⟩) (by decide) rfl (by decide) rfl rfl (Or.inl rfl) rfl) (xo_0 dX1_puppet_77 rfl trivial (xo_0 dX1_puppet_78 rfl trivial (xo_0 dX1_puppet_79 rfl trivial (xo_n))))))
theorem oX1_puppet_80  : xm_okb cI RX1 cX1_puppet false 8 lX1_puppet bX1_puppet_80 80 := xo_0 dX1_puppet_80 rfl trivial (xo_1 dX1_puppet_81 rfl (xm_fg_of (Or.inl q724) (by decide) rfl (by decide) rfl rfl (Or.inl rfl) rfl) (xo_1 dX1_puppet_84 rfl (xm_fg_of (Or.inr ⟨_, q669⟩) (by decide) rfl (by decide) rfl rfl (Or.inl rfl) rfl) (xo_0 dX1_puppet_87 rfl trivial (xo_0 dX1_puppet_88 rfl trivial (xo_0 dX1_puppet_89 rfl trivial (xo_n))))))
theorem oX1_puppet_90  : xm_okb cI RX1 cX1_puppet false 8 lX1_puppet bX1_puppet_90 90 := xo_0 dX1_puppet_90 rfl trivial (xo_1 dX1_puppet_91 rfl (xm_fg_of (Or.inl q724) (by decide) rfl (by decide) rfl rfl (Or.inl rfl) rfl) (xo_1 dX1_puppet_94 rfl (xm_fg_of (Or.inr ⟨_, q665⟩) (by decide) rfl (by decide) rfl rfl (Or.inl rfl) rfl) (xo_0 dX1_puppet_97 rfl trivial (xo_0 dX1_puppet_98 rfl trivial (xo_0 dX1_puppet_99 rfl trivial (xo_n))))))
theorem oX1_puppet_100  : xm_okb cI RX1 cX1_puppet false 8 lX1_puppet bX1_puppet_100 100 := xo_0 dX1_puppet_100 rfl trivial (xo_1 dX1_puppet_101 rfl (xm_fg_of (Or.inl q724) (by decide) rfl (by decide) rfl rfl (Or.inl rfl) rfl) (xo_0 dX1_puppet_104 rfl trivial (xo_c rfl (cv_X10_lacks dX1_puppet_105 (Or.inl q991) (by decide)) (xo_0 dX1_puppet_108 rfl trivial (xo_n)))))
theorem oX1_puppet_109  : xm_okb cI RX1 cX1_puppet false 8 lX1_puppet bX1_puppet_109 109 := xo_0 dX1_puppet_109 rfl trivial (xo_1 dX1_puppet_110 rfl (xm_fg_of (Or.inl q724) (by decide) rfl (by decide) rfl rfl (Or.inl rfl) rfl) (xo_1 dX1_puppet_113 rfl (xm_fg_of (Or.inr ⟨_, q667⟩) (by decide) rfl (by decide) rfl rfl (Or.inl rfl) rfl) (xo_0 dX1_puppet_116 rfl trivial (xo_0 dX1_puppet_117 rfl trivial (xo_0 dX1_puppet_118 rfl trivial (xo_n))))))
theorem oX1_puppet  : ∀ q ∈ kX1_puppet, xm_okb cI RX1 cX1_puppet false 8 lX1_puppet q.2 q.1 := by
  intro q hq
  simp only [List.mem_cons, List.not_mem_nil, or_false] at hq
  rcases hq with rfl | rfl | rfl | rfl | rfl | rfl | rfl | rfl | rfl
  · exact oX1_puppet_0  
  · exact oX1_puppet_19  
  · exact oX1_puppet_20  
  · exact oX1_puppet_60  
  · exact oX1_puppet_70  
  · exact oX1_puppet_80  
  · exact oX1_puppet_90  
  · exact oX1_puppet_100  
  · exact oX1_puppet_109  
def S_X1_puppet : xS := cU fun as P Z I Q QX => ∃ a b L, as = [.ref 0, .int a, .int b] ∧ c_good P Z I L ∧ c_P P Z L (cG P I L) Q QX (q_puppet (cG P I L) a b)
theorem body_X1_puppet : xm_Body 3 0 2 12 [] lX1_puppet kX1_puppet S_X1_puppet := by
  intro X avs w Q QX hX0 hS
  have hG := xm_go [] hX0
  have hX := xm_go [] hX0
  clear hX0
  obtain ⟨P, Z, I, rfl, a, b, L, rfl, hg, hQ⟩ := hS
  have hok := hg.ok
  obtain ⟨hn, h9, hm, h8⟩ := id hok
  have h5 := c_5 (P := P)
  have ht := hg.now
  refine ⟨rfl, ?_⟩
  repeat' (first
    | ((with_reducible refine @And.intro (vp_in _ _) _ ?_ ?_); (· (first | with_reducible assumption | ((with_reducible refine t_vin ?_); decide) | ((with_reducible refine vp_in_nI ?_ ?_) <;> first | omega | decide) | (simp (disch := omega) only [xl_n, xl_m, nI_dec, nI_sb, nI_add, pk_mul]; (with_reducible refine vp_in_nI ?_ ?_) <;> first | omega | decide))); (conv => whnf))
    | (refine And.intro (by first | with_reducible assumption | exact (show cL _ _ = _ from rfl) | decide) ?_; (conv => whnf))
    | ((with_reducible refine @And.intro (_ = _) _ ?_ ?_); (· rfl); (conv => whnf))
    | ((with_reducible refine @And.intro (@LE.le Nat _ _ _) _ ?_ ?_); (· (first | exact Nat.zero_le _ | exact Nat.le_of_ble_eq_true rfl | omega)); (conv => whnf))
    | ((with_reducible refine @And.intro (@LT.lt Nat _ _ _) _ ?_ ?_); (· omega); (conv => whnf))
    | ((with_reducible refine @And.intro (∃ _, _ = _) _ ?_ ?_); (· exact ⟨_, rfl⟩); (conv => whnf))
    | ((with_reducible refine @And.intro (_ ∨ _) _ ?_ ?_); (· (first | exact Or.inl rfl | exact Or.inr rfl | exact t_b01 _ | assumption)); (conv => whnf))
    | ((with_reducible refine @And.intro (¬ (_ = _)) _ ?_ ?_); (· first | assumption | (with_reducible assumption)); (conv => whnf))
    | (refine hX _ _ _ _ _ _ ?_; (conv => whnf); fail_if_success show False)
    | (rw [c_si]; (conv => whnf))
    | (refine ⟨_, rfl, ?_⟩; (conv => whnf))
    | (refine ⟨_, _, rfl, ?_⟩; (conv => whnf))
    | (refine ⟨_, _, _, rfl, ?_⟩; (conv => whnf))
    | (refine ⟨_, _, _, _, rfl, ?_⟩; (conv => whnf))
    | (refine ⟨a,rfl,hok,?_⟩; (conv => whnf))
    | fail)
  refine ⟨fun e => ?_, fun e x hx => ?_⟩
  · obtain ⟨p, hp, rfl⟩ := t_in_of (by omega) e
    have f : g_isP (cG P I L) (nI p) = true := e
    have hp8 : p < 8 := by omega
    have ek : (nI p).toNatClampNeg = p := nI_clamp (by omega)
    have hm9 : t_m9 (I (10 * 5 + 1) p) := by
      have := (ht.2.2.2.1 p).1
      rw [cA_gw (by omega)] at this
      exact this
    rw [q_puppet, f, g_ck_t] at hQ
    (conv => whnf)
    rcases c_rc b 0 5 (A := 0) (B := Int32.ofInt 5) (by decide +kernel) (by decide +kernel) (by omega) (by omega) with ⟨n, -, hn6, rfl, e1⟩ | ⟨e1, h1⟩ | ⟨e1, h1, h2⟩
    · have q : n = 0 ∨ n = 1 ∨ n = 2 ∨ n = 3 ∨ n = 4 ∨ n = 5 := by omega
      rw [e1, g_ck_t, nI_clamp (by omega), nI_clamp (by omega)] at hQ
      rcases q with rfl | rfl | rfl | rfl | rfl | rfl
      all_goals
        repeat' (first
          | ((with_reducible refine @And.intro (vp_in _ _) _ ?_ ?_); (· (first | with_reducible assumption | ((with_reducible refine t_vin ?_); decide) | ((with_reducible refine vp_in_nI ?_ ?_) <;> first | omega | decide) | (simp (disch := omega) only [xl_n, xl_m, nI_dec, nI_sb, nI_add, pk_mul]; (with_reducible refine vp_in_nI ?_ ?_) <;> first | omega | decide))); (conv => whnf))
          | (refine And.intro (by first | with_reducible assumption | exact (show cL _ _ = _ from rfl) | decide) ?_; (conv => whnf))
          | ((with_reducible refine @And.intro (_ = _) _ ?_ ?_); (· rfl); (conv => whnf))
          | ((with_reducible refine @And.intro (@LE.le Nat _ _ _) _ ?_ ?_); (· (first | exact Nat.zero_le _ | exact Nat.le_of_ble_eq_true rfl | omega)); (conv => whnf))
          | ((with_reducible refine @And.intro (@LT.lt Nat _ _ _) _ ?_ ?_); (· omega); (conv => whnf))
          | ((with_reducible refine @And.intro (∃ _, _ = _) _ ?_ ?_); (· exact ⟨_, rfl⟩); (conv => whnf))
          | ((with_reducible refine @And.intro (_ ∨ _) _ ?_ ?_); (· (first | exact Or.inl rfl | exact Or.inr rfl | exact t_b01 _ | assumption)); (conv => whnf))
          | ((with_reducible refine @And.intro (¬ (_ = _)) _ ?_ ?_); (· first | assumption | (with_reducible assumption)); (conv => whnf))
          | (refine hX _ _ _ _ _ _ ?_; (conv => whnf); fail_if_success show False)
          | (rw [c_si]; (conv => whnf))
          | (refine ⟨_, rfl, ?_⟩; (conv => whnf))
          | (refine ⟨_, _, rfl, ?_⟩; (conv => whnf))
          | (refine ⟨_, _, _, rfl, ?_⟩; (conv => whnf))
          | (refine ⟨_, _, _, _, rfl, ?_⟩; (conv => whnf))
          | (refine ⟨true,rfl,?_⟩; (conv => whnf))
          | (refine ⟨false,rfl,?_⟩; (conv => whnf))
          | (refine And.intro (fun c => ?_) (fun c => ?_) <;> (first | (exact absurd c (by decide +kernel)) | (conv => whnf)))
          | fail)
        simp (disch := omega) [xm_tsw, xm_tgt, xl_n, nI_eq, nI_toInt]
        repeat' (first
          | ((with_reducible refine @And.intro (vp_in _ _) _ ?_ ?_); (· (first | with_reducible assumption | ((with_reducible refine t_vin ?_); decide) | ((with_reducible refine vp_in_nI ?_ ?_) <;> first | omega | decide) | (simp (disch := omega) only [xl_n, xl_m, nI_dec, nI_sb, nI_add, pk_mul]; (with_reducible refine vp_in_nI ?_ ?_) <;> first | omega | decide))); (conv => whnf))
          | (refine And.intro (by first | with_reducible assumption | exact (show cL _ _ = _ from rfl) | decide) ?_; (conv => whnf))
          | ((with_reducible refine @And.intro (_ = _) _ ?_ ?_); (· rfl); (conv => whnf))
          | ((with_reducible refine @And.intro (@LE.le Nat _ _ _) _ ?_ ?_); (· (first | exact Nat.zero_le _ | exact Nat.le_of_ble_eq_true rfl | omega)); (conv => whnf))
          | ((with_reducible refine @And.intro (@LT.lt Nat _ _ _) _ ?_ ?_); (· omega); (conv => whnf))
          | ((with_reducible refine @And.intro (∃ _, _ = _) _ ?_ ?_); (· exact ⟨_, rfl⟩); (conv => whnf))
          | ((with_reducible refine @And.intro (_ ∨ _) _ ?_ ?_); (· (first | exact Or.inl rfl | exact Or.inr rfl | exact t_b01 _ | assumption)); (conv => whnf))
          | ((with_reducible refine @And.intro (¬ (_ = _)) _ ?_ ?_); (· first | assumption | (with_reducible assumption)); (conv => whnf))
          | (refine hX _ _ _ _ _ _ ?_; (conv => whnf); fail_if_success show False)
          | (rw [c_si]; simp (disch := omega) only [xl_n, xl_m, nI_dec, nI_sb, xl_0, xl_1, cW_i, Nat.add_zero, Nat.reduceAdd, Nat.reduceMul, t_bn0, t_bn1, Classical.not_not, t_lt, nI_add, nI_1, pk_mul, nI_clamp, c_si, nI_eq, nI_leI, nM_ne, nM_ne, xm_u2_ne, xm_u2_at, reduceIte, Nat.reduceEqDiff]; (conv => whnf))
          | (refine ⟨_, rfl, ?_⟩; (conv => whnf))
          | (refine ⟨_, _, rfl, ?_⟩; (conv => whnf))
          | (refine ⟨_, _, _, rfl, ?_⟩; (conv => whnf))
          | (refine ⟨_, _, _, _, rfl, ?_⟩; (conv => whnf))
          | (refine ⟨5,p,rfl,h5,hp8,hm9,?_⟩; (conv => whnf))
          | (rw [c_tl h5]; (conv => whnf))
          | (rw [c_t7 h5]; (conv => whnf))
          | (rw [c_tf h5 (by decide)]; (conv => whnf))
          | (rw [c_t0 h5]; (conv => whnf))
          | (rw [c_t1 h5]; (conv => whnf))
          | (rw [c_t2 h5]; (conv => whnf))
          | (rw [c_t3 h5]; (conv => whnf))
          | (rw [c_t4 h5]; (conv => whnf))
          | (rw [c_t5 h5]; (conv => whnf))
          | (refine And.intro ⟨_, c_tl h5⟩ ?_; (conv => whnf))
          | (refine And.intro (fun c => ?_) (fun c => ?_) <;> (first | (exact absurd c (by decide +kernel)) | (conv => whnf)))
          | fail)
      · refine c_ask hQ hg c_sp.rf ?_
        rw [ek]
        exact (cK_fall (I := I) (L := L) hp).symm
      · refine c_ask hQ hg c_sp.rf ?_
        rw [ek]
        exact (cK_needs (I := I) (L := L) hp).symm
      · refine c_ask hQ hg c_sp.rf ?_
        rw [ek]
        exact (cA_gs (I := I) (r := 5) hp8).symm
      · refine c_ask hQ hg c_sp.rf ?_
        rw [ek]
        exact (cA_gw (I := I) (r := 5) hp8).symm
      · refine c_ask hQ hg c_sp.rf ?_
        show _ = g_lack (cK I L) (cA I 5) p
        unfold g_lack
        rw [cA_gw (by omega), cK_needs hp]
      · refine c_ask hQ hg c_sp.rf ?_
        rw [ek]
        exact (cA_gl (I := I) (r := 5) hp8).symm
    all_goals
      repeat' (first
        | ((with_reducible refine @And.intro (vp_in _ _) _ ?_ ?_); (· (first | with_reducible assumption | ((with_reducible refine t_vin ?_); decide) | ((with_reducible refine vp_in_nI ?_ ?_) <;> first | omega | decide) | (simp (disch := omega) only [xl_n, xl_m, nI_dec, nI_sb, nI_add, pk_mul]; (with_reducible refine vp_in_nI ?_ ?_) <;> first | omega | decide))); (conv => whnf))
        | (refine And.intro (by first | with_reducible assumption | exact (show cL _ _ = _ from rfl) | decide) ?_; (conv => whnf))
        | ((with_reducible refine @And.intro (_ = _) _ ?_ ?_); (· rfl); (conv => whnf))
        | ((with_reducible refine @And.intro (@LE.le Nat _ _ _) _ ?_ ?_); (· (first | exact Nat.zero_le _ | exact Nat.le_of_ble_eq_true rfl | omega)); (conv => whnf))
        | ((with_reducible refine @And.intro (@LT.lt Nat _ _ _) _ ?_ ?_); (· omega); (conv => whnf))
        | ((with_reducible refine @And.intro (∃ _, _ = _) _ ?_ ?_); (· exact ⟨_, rfl⟩); (conv => whnf))
        | ((with_reducible refine @And.intro (_ ∨ _) _ ?_ ?_); (· (first | exact Or.inl rfl | exact Or.inr rfl | exact t_b01 _ | assumption)); (conv => whnf))
        | ((with_reducible refine @And.intro (¬ (_ = _)) _ ?_ ?_); (· first | assumption | (with_reducible assumption)); (conv => whnf))
        | (refine hX _ _ _ _ _ _ ?_; (conv => whnf); fail_if_success show False)
        | (rw [c_si]; (conv => whnf))
        | (refine ⟨_, rfl, ?_⟩; (conv => whnf))
        | (refine ⟨_, _, rfl, ?_⟩; (conv => whnf))
        | (refine ⟨_, _, _, rfl, ?_⟩; (conv => whnf))
        | (refine ⟨_, _, _, _, rfl, ?_⟩; (conv => whnf))
        | (refine ⟨true,rfl,?_⟩; (conv => whnf))
        | (refine ⟨false,rfl,?_⟩; (conv => whnf))
        | (refine And.intro (fun c => ?_) (fun c => ?_) <;> (first | (exact absurd c (by decide +kernel)) | (exact absurd c (by assumption)) | (exact False.elim (c (by assumption))) | (conv => whnf)))
        | fail)
      intro x hx
      exact c_ref1 hQ hg e1 hx n2_0
  · exact c_ref0 hQ hg e hx n1_0
theorem ct_X1_puppet : xm_Ct cI yX1_puppet (ws_ yX1_puppet cX1_puppet 3 (some .int)) 8 2 12 S_X1_puppet := xm_enter (rt := 0) (init := false) (by decide +kernel) rfl (fun h => by cases h) (Or.inl ⟨rfl, rfl⟩) (oX1_puppet) body_X1_puppet
theorem cv_X1_puppet {own : String} {cc : ByteArray} {fr pc idx : Nat} (hdg : decode cc pc = .ok (.invokevirtual idx, 3)) (hl : xm_ml own idx yX1_puppet) (hfr : 8 < fr) : xm_CallOK cI own cc fr pc (pc + 3) 3 2 12 (xm_this 0 S_X1_puppet) := xm_callV 0 cI_good (ct_X1_puppet) hdg hl q1604 q1605 q116 q1606 rfl rfl (by decide +kernel) hfr (by decide)
abbrev bX1_netOf_0 : List xE := [(.iconst 0, 1, 0, 0, 0), (.istore_n 2, 2, 0, 0, 0), (.iconst 0, 3, 0, 0, 0), (.istore_n 3, 4, 0, 0, 0)]
abbrev bX1_netOf_4 : List xE := [(.iload_n 3, 5, 0, 0, 0), (.aload_n 0, 6, 0, 0, 0), (.getfield 31, 9, 0, 0, 1), (.getfield 126, 12, 1, 11, 0), (.if_icmp .ge 41, 15, 0, 53, 0), (.iload_n 2, 16, 0, 0, 0), (.aload_n 0, 17, 0, 0, 0), (.getfield 31, 20, 0, 0, 1), (.getfield 374, 23, 1, 4, 1), (.bipush 9, 25, 0, 0, 0), (.iload_n 3, 26, 0, 0, 0), (.imul, 27, 0, 0, 0), (.iload_n 1, 28, 0, 0, 0), (.iadd, 29, 0, 0, 0), (.iaload, 30, 0, 0, 0), (.aload_n 0, 31, 0, 0, 0), (.getfield 31, 34, 0, 0, 1), (.getfield 374, 37, 1, 4, 1), (.bipush 9, 39, 0, 0, 0), (.iload_n 1, 40, 0, 0, 0), (.imul, 41, 0, 0, 0), (.iload_n 3, 42, 0, 0, 0), (.iadd, 43, 0, 0, 0), (.iaload, 44, 0, 0, 0), (.isub, 45, 0, 0, 0), (.iadd, 46, 0, 0, 0), (.istore_n 2, 47, 0, 0, 0), (.iinc 3 1, 50, 0, 0, 0), (.goto (-46), 53, 0, 4, 0)]
abbrev bX1_netOf_53 : List xE := [(.iload_n 2, 54, 0, 0, 0), (.ireturn, 55, 0, 0, 0)]
abbrev kX1_netOf : List (Nat × List xE) := [(0, bX1_netOf_0), (4, bX1_netOf_4), (53, bX1_netOf_53)]
abbrev lX1_netOf : List (Nat × Nat × Nat × xS) := []
theorem oX1_netOf_0  : xm_okb cI RX1 cX1_netOf false 1 lX1_netOf bX1_netOf_0 0 := xo_0 dX1_netOf_0 rfl trivial (xo_0 dX1_netOf_1 rfl trivial (xo_0 dX1_netOf_2 rfl trivial (xo_0 dX1_netOf_3 rfl trivial (xo_n))))
theorem oX1_netOf_4  : xm_okb cI RX1 cX1_netOf false 1 lX1_netOf bX1_netOf_4 4 := xo_0 dX1_netOf_4 rfl trivial (xo_0 dX1_netOf_5 rfl trivial (xo_1 dX1_netOf_6 rfl (xm_fg_of (Or.inl q716) (by decide) rfl (by decide) rfl rfl (Or.inl rfl) rfl) (xo_0 dX1_netOf_9 rfl (xm_fg_of (Or.inr ⟨_, q556⟩) (by decide) rfl (by decide) rfl rfl (Or.inl rfl) rfl) (xo_0 dX1_netOf_12 rfl rfl (xo_0 dX1_netOf_15 rfl trivial (xo_0 dX1_netOf_16 rfl trivial (xo_1 dX1_netOf_17 rfl (xm_fg_of (Or.inl q716) (by decide) rfl (by decide) rfl rfl (Or.inl rfl) rfl) (xo_1 dX1_netOf_20 rfl (xm_fg_of (Or.inr ⟨_, q531⟩) (by decide) rfl (by decide) rfl rfl (Or.inl rfl) rfl) (xo_0 dX1_netOf_23 rfl (xo_bipush (by decide +kernel)) (xo_0 dX1_netOf_25 rfl trivial (xo_0 dX1_netOf_26 rfl trivial (xo_0 dX1_netOf_27 rfl trivial (xo_0 dX1_netOf_28 rfl trivial (xo_0 dX1_netOf_29 rfl trivial (xo_0 dX1_netOf_30 rfl trivial (xo_1 dX1_netOf_31 rfl (xm_fg_of (Or.inl q716) (by decide) rfl (by decide) rfl rfl (Or.inl rfl) rfl) (xo_1 dX1_netOf_34 rfl (xm_fg_of (Or.inr ⟨_, q531⟩) (by decide) rfl (by decide) rfl rfl (Or.inl rfl) rfl) (xo_0 dX1_netOf_37 rfl (xo_bipush (by decide +kernel)) (xo_0 dX1_netOf_39 rfl trivial (xo_0 dX1_netOf_40 rfl trivial (xo_0 dX1_netOf_41 rfl trivial (xo_0 dX1_netOf_42 rfl trivial (xo_0 dX1_netOf_43 rfl trivial (xo_0 dX1_netOf_44 rfl trivial (xo_0 dX1_netOf_45 rfl trivial (xo_0 dX1_netOf_46 rfl trivial (xo_0 dX1_netOf_47 rfl trivial (xo_0 dX1_netOf_50 rfl rfl (xo_n)))))))))))))))))))))))))))))
theorem oX1_netOf_53  : xm_okb cI RX1 cX1_netOf false 1 lX1_netOf bX1_netOf_53 53 := xo_0 dX1_netOf_53 rfl trivial (xo_0 dX1_netOf_54 rfl trivial (xo_n))
theorem oX1_netOf  : ∀ q ∈ kX1_netOf, xm_okb cI RX1 cX1_netOf false 1 lX1_netOf q.2 q.1 := by
  intro q hq
  simp only [List.mem_cons, List.not_mem_nil, or_false] at hq
  rcases hq with rfl | rfl | rfl
  · exact oX1_netOf_0  
  · exact oX1_netOf_4  
  · exact oX1_netOf_53  
def S_X1_netOf : xS := cU fun as P Z I Q QX => ∃ h L, as = [.ref 0, .int (nI h)] ∧ c_good P Z I L ∧ h < c_h I ∧ Q (some (.int (g_net (cG P I L) h))) I
theorem body_X1_netOf : xm_Body 4 0 0 0 [] lX1_netOf kX1_netOf S_X1_netOf := by
  intro X avs w Q QX hX0 hS
  have hG := xm_go [] hX0
  have hX := xm_go [4] hX0
  clear hX0
  obtain ⟨P, Z, I, rfl, h, L, rfl, hg, hh, hQ⟩ := hS
  obtain ⟨hn, h9, -⟩ := id hg.ok
  have loop : ∀ k, k ≤ c_h I → X 4 [some (.ref 0), some (.int (nI h)), some (.int (t_sum k fun k => gow (cG P I L) k h - gow (cG P I L) h k)), some (.int (nI k))] [] (cW P Z I) 0 0 := by
    refine t_for fun k h1 ih => ?_
    refine hG _ _ _ _ _ _ ?_
    (conv => whnf)
    repeat' (first
      | ((with_reducible refine @And.intro (vp_in _ _) _ ?_ ?_); (· (first | with_reducible assumption | ((with_reducible refine t_vin ?_); decide) | ((with_reducible refine vp_in_nI ?_ ?_) <;> first | omega | decide) | (simp (disch := omega) only [xl_n, xl_m, nI_dec, nI_sb, nI_add, pk_mul]; (with_reducible refine vp_in_nI ?_ ?_) <;> first | omega | decide))); (conv => whnf))
      | (refine And.intro (by first | with_reducible assumption | exact (show cL _ _ = _ from rfl) | decide) ?_; (conv => whnf))
      | ((with_reducible refine @And.intro (_ = _) _ ?_ ?_); (· rfl); (conv => whnf))
      | ((with_reducible refine @And.intro (@LE.le Nat _ _ _) _ ?_ ?_); (· (first | exact Nat.zero_le _ | exact Nat.le_of_ble_eq_true rfl | omega)); (conv => whnf))
      | ((with_reducible refine @And.intro (@LT.lt Nat _ _ _) _ ?_ ?_); (· omega); (conv => whnf))
      | ((with_reducible refine @And.intro (∃ _, _ = _) _ ?_ ?_); (· exact ⟨_, rfl⟩); (conv => whnf))
      | ((with_reducible refine @And.intro (_ ∨ _) _ ?_ ?_); (· (first | exact Or.inl rfl | exact Or.inr rfl | exact t_b01 _ | assumption)); (conv => whnf))
      | ((with_reducible refine @And.intro (¬ (_ = _)) _ ?_ ?_); (· first | assumption | (with_reducible assumption)); (conv => whnf))
      | (refine hX _ _ _ _ _ _ ?_; (conv => whnf); fail_if_success show False)
      | (rw [c_si]; (conv => whnf))
      | (refine ⟨_, rfl, ?_⟩; (conv => whnf))
      | (refine ⟨_, _, rfl, ?_⟩; (conv => whnf))
      | (refine ⟨_, _, _, rfl, ?_⟩; (conv => whnf))
      | (refine ⟨_, _, _, _, rfl, ?_⟩; (conv => whnf))
      | fail)
    refine And.intro (fun c => ?_) (fun c => ?_) <;> (conv => whnf)
    · repeat' (first
        | ((with_reducible refine @And.intro (vp_in _ _) _ ?_ ?_); (· (first | with_reducible assumption | ((with_reducible refine t_vin ?_); decide) | ((with_reducible refine vp_in_nI ?_ ?_) <;> first | omega | decide) | (simp (disch := omega) only [xl_n, xl_m, nI_dec, nI_sb, nI_add, pk_mul]; (with_reducible refine vp_in_nI ?_ ?_) <;> first | omega | decide))); (conv => whnf))
        | (refine And.intro (by first | with_reducible assumption | exact (show cL _ _ = _ from rfl) | decide) ?_; (conv => whnf))
        | ((with_reducible refine @And.intro (_ = _) _ ?_ ?_); (· rfl); (conv => whnf))
        | ((with_reducible refine @And.intro (@LE.le Nat _ _ _) _ ?_ ?_); (· (first | exact Nat.zero_le _ | exact Nat.le_of_ble_eq_true rfl | omega)); (conv => whnf))
        | ((with_reducible refine @And.intro (@LT.lt Nat _ _ _) _ ?_ ?_); (· omega); (conv => whnf))
        | ((with_reducible refine @And.intro (∃ _, _ = _) _ ?_ ?_); (· exact ⟨_, rfl⟩); (conv => whnf))
        | ((with_reducible refine @And.intro (_ ∨ _) _ ?_ ?_); (· (first | exact Or.inl rfl | exact Or.inr rfl | exact t_b01 _ | assumption)); (conv => whnf))
        | ((with_reducible refine @And.intro (¬ (_ = _)) _ ?_ ?_); (· first | assumption | (with_reducible assumption)); (conv => whnf))
        | (refine hX _ _ _ _ _ _ ?_; (conv => whnf); fail_if_success show False)
        | (rw [c_si]; (conv => whnf))
        | (refine ⟨_, rfl, ?_⟩; (conv => whnf))
        | (refine ⟨_, _, rfl, ?_⟩; (conv => whnf))
        | (refine ⟨_, _, _, rfl, ?_⟩; (conv => whnf))
        | (refine ⟨_, _, _, _, rfl, ?_⟩; (conv => whnf))
        | fail)
      have : k = c_h I := Nat.le_antisymm h1 (t_kge hn c (by omega) (by omega))
      subst this
      exact hQ
    · have hk : k < c_h I := t_klt hn c (by omega)
      have := ih (k + 1) (by omega) (by omega)
      rw [t_sum_s, show gow (cG P I L) k h = I 34 (9 * k + h) from if_pos (by omega), show gow (cG P I L) h k = I 34 (9 * h + k) from if_pos (by omega)] at this
      repeat' (first
        | ((with_reducible refine @And.intro (vp_in _ _) _ ?_ ?_); (· (first | with_reducible assumption | ((with_reducible refine t_vin ?_); decide) | ((with_reducible refine vp_in_nI ?_ ?_) <;> first | omega | decide) | (simp (disch := omega) only [xl_n, xl_m, nI_dec, nI_sb, nI_add, pk_mul]; (with_reducible refine vp_in_nI ?_ ?_) <;> first | omega | decide))); (conv => whnf))
        | (refine And.intro (by first | with_reducible assumption | exact (show cL _ _ = _ from rfl) | decide) ?_; (conv => whnf))
        | ((with_reducible refine @And.intro (_ = _) _ ?_ ?_); (· rfl); (conv => whnf))
        | ((with_reducible refine @And.intro (@LE.le Nat _ _ _) _ ?_ ?_); (· (first | exact Nat.zero_le _ | exact Nat.le_of_ble_eq_true rfl | omega)); (conv => whnf))
        | ((with_reducible refine @And.intro (@LT.lt Nat _ _ _) _ ?_ ?_); (· omega); (conv => whnf))
        | ((with_reducible refine @And.intro (∃ _, _ = _) _ ?_ ?_); (· exact ⟨_, rfl⟩); (conv => whnf))
        | ((with_reducible refine @And.intro (_ ∨ _) _ ?_ ?_); (· (first | exact Or.inl rfl | exact Or.inr rfl | exact t_b01 _ | assumption)); (conv => whnf))
        | ((with_reducible refine @And.intro (¬ (_ = _)) _ ?_ ?_); (· first | assumption | (with_reducible assumption)); (conv => whnf))
        | (refine hX _ _ _ _ _ _ ?_; (conv => whnf); fail_if_success show False)
        | (rw [c_si]; simp (disch := omega) only [xl_n, xl_m, nI_dec, nI_sb, xl_0, xl_1, cW_i, Nat.add_zero, Nat.reduceAdd, Nat.reduceMul, t_bn0, t_bn1, Classical.not_not, t_lt, nI_add, nI_1, pk_mul, nI_clamp, c_si, nI_eq, nI_leI, nM_ne, nM_ne, xm_u2_ne, xm_u2_at, reduceIte, Nat.reduceEqDiff]; (conv => whnf))
        | (refine ⟨_, rfl, ?_⟩; (conv => whnf))
        | (refine ⟨_, _, rfl, ?_⟩; (conv => whnf))
        | (refine ⟨_, _, _, rfl, ?_⟩; (conv => whnf))
        | (refine ⟨_, _, _, _, rfl, ?_⟩; (conv => whnf))
        | (refine And.intro (fun c => ?_) (fun c => ?_) <;> (first | (exact absurd c (by decide +kernel)) | (conv => whnf)))
        | fail)
      clear ih hX hG hQ
      simp (disch := omega) only [xl_n, xl_m, nI_dec, nI_sb, xl_0, xl_1, cW_i, Nat.add_zero, Nat.reduceAdd, Nat.reduceMul, t_bn0, t_bn1, Classical.not_not, t_lt, nI_add, nI_1, pk_mul, nI_clamp, c_si, nI_eq, nI_leI, nM_ne, nM_ne, xm_set, xm_lv0, xm_psh] at *
      exact this
  refine ⟨rfl, ?_⟩
  repeat' (first
    | ((with_reducible refine @And.intro (vp_in _ _) _ ?_ ?_); (· (first | with_reducible assumption | ((with_reducible refine t_vin ?_); decide) | ((with_reducible refine vp_in_nI ?_ ?_) <;> first | omega | decide) | (simp (disch := omega) only [xl_n, xl_m, nI_dec, nI_sb, nI_add, pk_mul]; (with_reducible refine vp_in_nI ?_ ?_) <;> first | omega | decide))); (conv => whnf))
    | (refine And.intro (by first | with_reducible assumption | exact (show cL _ _ = _ from rfl) | decide) ?_; (conv => whnf))
    | ((with_reducible refine @And.intro (_ = _) _ ?_ ?_); (· rfl); (conv => whnf))
    | ((with_reducible refine @And.intro (@LE.le Nat _ _ _) _ ?_ ?_); (· (first | exact Nat.zero_le _ | exact Nat.le_of_ble_eq_true rfl | omega)); (conv => whnf))
    | ((with_reducible refine @And.intro (@LT.lt Nat _ _ _) _ ?_ ?_); (· omega); (conv => whnf))
    | ((with_reducible refine @And.intro (∃ _, _ = _) _ ?_ ?_); (· exact ⟨_, rfl⟩); (conv => whnf))
    | ((with_reducible refine @And.intro (_ ∨ _) _ ?_ ?_); (· (first | exact Or.inl rfl | exact Or.inr rfl | exact t_b01 _ | assumption)); (conv => whnf))
    | ((with_reducible refine @And.intro (¬ (_ = _)) _ ?_ ?_); (· first | assumption | (with_reducible assumption)); (conv => whnf))
    | (refine hX _ _ _ _ _ _ ?_; (conv => whnf); fail_if_success show False)
    | (rw [c_si]; (conv => whnf))
    | (refine ⟨_, rfl, ?_⟩; (conv => whnf))
    | (refine ⟨_, _, rfl, ?_⟩; (conv => whnf))
    | (refine ⟨_, _, _, rfl, ?_⟩; (conv => whnf))
    | (refine ⟨_, _, _, _, rfl, ?_⟩; (conv => whnf))
    | (refine And.intro (fun c => ?_) (fun c => ?_) <;> (first | (exact absurd c (by decide +kernel)) | (conv => whnf)))
    | fail)
  exact loop 0 (Nat.zero_le _)
theorem ct_X1_netOf : xm_Ct cI yX1_netOf (ws_ yX1_netOf cX1_netOf 4 (some .int)) 1 0 0 S_X1_netOf := xm_enter (rt := 0) (init := false) (by decide +kernel) rfl (fun h => by cases h) (Or.inl ⟨rfl, rfl⟩) (oX1_netOf) body_X1_netOf
theorem cv_X1_netOf {own : String} {cc : ByteArray} {fr pc idx : Nat} (hdg : decode cc pc = .ok (.invokevirtual idx, 3)) (hl : xm_ml own idx yX1_netOf) (hfr : 1 < fr) : xm_CallOK cI own cc fr pc (pc + 3) 2 0 0 (xm_this 0 S_X1_netOf) := xm_callV 0 cI_good (ct_X1_netOf) hdg hl q1825 qs44 q116 q1826 rfl rfl (by decide +kernel) hfr (by decide)
abbrev bX1_net_0 : List xE := [(.aload_n 0, 1, 0, 0, 0), (.iload_n 1, 2, 0, 0, 0), (.invokevirtual 217, 5, 0, 0, 9), (.aload_n 0, 6, 0, 0, 0), (.iload_n 1, 7, 0, 0, 0), (.invokevirtual 377, 10, 0, 1, 9), (.ireturn, 11, 0, 0, 0)]
abbrev kX1_net : List (Nat × List xE) := [(0, bX1_net_0)]
abbrev lX1_net : List (Nat × Nat × Nat × xS) := [(2, 1, 6, xm_this 0 S_X1_needHand), (2, 0, 0, xm_this 0 S_X1_netOf)]
theorem oX1_net_0  : xm_okb cI RX1 cX1_net false 8 lX1_net bX1_net_0 0 := xo_0 dX1_net_0 rfl trivial (xo_0 dX1_net_1 rfl trivial (xo_c rfl (cv_X1_needHand dX1_net_2 (Or.inl q1576) (by decide)) (xo_0 dX1_net_5 rfl trivial (xo_0 dX1_net_6 rfl trivial (xo_c rfl (cv_X1_netOf dX1_net_7 (Or.inl q1823) (by decide)) (xo_0 dX1_net_10 rfl trivial (xo_n)))))))
theorem oX1_net  : ∀ q ∈ kX1_net, xm_okb cI RX1 cX1_net false 8 lX1_net q.2 q.1 := by
  intro q hq
  simp only [List.mem_cons, List.not_mem_nil, or_false] at hq
  subst hq
  exact oX1_net_0  
def S_X1_net : xS := cU fun as P Z I Q QX => ∃ a L, as = [.ref 0, .int a] ∧ c_good P Z I L ∧ c_P P Z L (cG P I L) Q QX (q_net (cG P I L) a)
theorem body_X1_net : xm_Body 2 0 1 6 [] lX1_net kX1_net S_X1_net := by
  intro X avs w Q QX hX0 hS
  have hG := xm_go [] hX0
  have hX := xm_go [] hX0
  clear hX0
  obtain ⟨P, Z, I, rfl, a, L, rfl, hg, hQ⟩ := hS
  have hok := hg.ok
  obtain ⟨hn, h9, hm, h8⟩ := id hok
  refine ⟨rfl, ?_⟩
  repeat' (first
    | ((with_reducible refine @And.intro (vp_in _ _) _ ?_ ?_); (· (first | with_reducible assumption | ((with_reducible refine t_vin ?_); decide) | ((with_reducible refine vp_in_nI ?_ ?_) <;> first | omega | decide) | (simp (disch := omega) only [xl_n, xl_m, nI_dec, nI_sb, nI_add, pk_mul]; (with_reducible refine vp_in_nI ?_ ?_) <;> first | omega | decide))); (conv => whnf))
    | (refine And.intro (by first | with_reducible assumption | exact (show cL _ _ = _ from rfl) | decide) ?_; (conv => whnf))
    | ((with_reducible refine @And.intro (_ = _) _ ?_ ?_); (· rfl); (conv => whnf))
    | ((with_reducible refine @And.intro (@LE.le Nat _ _ _) _ ?_ ?_); (· (first | exact Nat.zero_le _ | exact Nat.le_of_ble_eq_true rfl | omega)); (conv => whnf))
    | ((with_reducible refine @And.intro (@LT.lt Nat _ _ _) _ ?_ ?_); (· omega); (conv => whnf))
    | ((with_reducible refine @And.intro (∃ _, _ = _) _ ?_ ?_); (· exact ⟨_, rfl⟩); (conv => whnf))
    | ((with_reducible refine @And.intro (_ ∨ _) _ ?_ ?_); (· (first | exact Or.inl rfl | exact Or.inr rfl | exact t_b01 _ | assumption)); (conv => whnf))
    | ((with_reducible refine @And.intro (¬ (_ = _)) _ ?_ ?_); (· first | assumption | (with_reducible assumption)); (conv => whnf))
    | (refine hX _ _ _ _ _ _ ?_; (conv => whnf); fail_if_success show False)
    | (rw [c_si]; (conv => whnf))
    | (refine ⟨_, rfl, ?_⟩; (conv => whnf))
    | (refine ⟨_, _, rfl, ?_⟩; (conv => whnf))
    | (refine ⟨_, _, _, rfl, ?_⟩; (conv => whnf))
    | (refine ⟨_, _, _, _, rfl, ?_⟩; (conv => whnf))
    | (refine ⟨a,rfl,hok,?_⟩; (conv => whnf))
    | fail)
  refine ⟨fun e => ?_, fun e x hx => ?_⟩
  · obtain ⟨h, hh, rfl⟩ := t_in_of (by omega) e
    have f : g_isH (cG P I L) (nI h) = true := e
    rw [q_net, f, g_ck_t, nI_clamp (by omega)] at hQ
    (conv => whnf)
    repeat' (first
      | ((with_reducible refine @And.intro (vp_in _ _) _ ?_ ?_); (· (first | with_reducible assumption | ((with_reducible refine t_vin ?_); decide) | ((with_reducible refine vp_in_nI ?_ ?_) <;> first | omega | decide) | (simp (disch := omega) only [xl_n, xl_m, nI_dec, nI_sb, nI_add, pk_mul]; (with_reducible refine vp_in_nI ?_ ?_) <;> first | omega | decide))); (conv => whnf))
      | (refine And.intro (by first | with_reducible assumption | exact (show cL _ _ = _ from rfl) | decide) ?_; (conv => whnf))
      | ((with_reducible refine @And.intro (_ = _) _ ?_ ?_); (· rfl); (conv => whnf))
      | ((with_reducible refine @And.intro (@LE.le Nat _ _ _) _ ?_ ?_); (· (first | exact Nat.zero_le _ | exact Nat.le_of_ble_eq_true rfl | omega)); (conv => whnf))
      | ((with_reducible refine @And.intro (@LT.lt Nat _ _ _) _ ?_ ?_); (· omega); (conv => whnf))
      | ((with_reducible refine @And.intro (∃ _, _ = _) _ ?_ ?_); (· exact ⟨_, rfl⟩); (conv => whnf))
      | ((with_reducible refine @And.intro (_ ∨ _) _ ?_ ?_); (· (first | exact Or.inl rfl | exact Or.inr rfl | exact t_b01 _ | assumption)); (conv => whnf))
      | ((with_reducible refine @And.intro (¬ (_ = _)) _ ?_ ?_); (· first | assumption | (with_reducible assumption)); (conv => whnf))
      | (refine hX _ _ _ _ _ _ ?_; (conv => whnf); fail_if_success show False)
      | (rw [c_si]; (conv => whnf))
      | (refine ⟨_, rfl, ?_⟩; (conv => whnf))
      | (refine ⟨_, _, rfl, ?_⟩; (conv => whnf))
      | (refine ⟨_, _, _, rfl, ?_⟩; (conv => whnf))
      | (refine ⟨_, _, _, _, rfl, ?_⟩; (conv => whnf))
      | (refine ⟨h,L,rfl,hg,hh,?_⟩; (conv => whnf))
      | (refine And.intro (fun c => ?_) (fun c => ?_) <;> (first | (exact absurd c (by decide +kernel)) | (conv => whnf)))
      | fail)
    exact c_ask hQ hg c_sp.rf rfl
  · exact c_ref0 hQ hg e hx n1_0
theorem ct_X1_net : xm_Ct cI yX1_net (ws_ yX1_net cX1_net 2 (some .int)) 8 1 6 S_X1_net := xm_enter (rt := 0) (init := false) (by decide +kernel) rfl (fun h => by cases h) (Or.inl ⟨rfl, rfl⟩) (oX1_net) body_X1_net
theorem cv_X1_net {own : String} {cc : ByteArray} {fr pc idx : Nat} (hdg : decode cc pc = .ok (.invokevirtual idx, 3)) (hl : xm_ml own idx yX1_net) (hfr : 8 < fr) : xm_CallOK cI own cc fr pc (pc + 3) 2 1 6 (xm_this 0 S_X1_net) := xm_callV 0 cI_good (ct_X1_net) hdg hl q1820 q1821 q116 q1822 rfl rfl (by decide +kernel) hfr (by decide)
abbrev bX1_slack_0 : List xE := [(.aload_n 0, 1, 0, 0, 0), (.iload_n 1, 2, 0, 0, 0), (.ifCond .lt 13, 5, 0, 15, 0), (.iload_n 1, 6, 0, 0, 0), (.bipush 31, 8, 0, 0, 0), (.if_icmp .gt 7, 11, 0, 15, 0), (.iconst 1, 12, 0, 0, 0), (.goto 4, 15, 0, 16, 0)]
abbrev bX1_slack_15 : List xE := [(.iconst 0, 16, 0, 0, 0)]
abbrev bX1_slack_16 : List xE := [(.invokevirtual 160, 19, 0, 0, 9), (.iconst 0, 20, 0, 0, 0), (.istore_n 2, 21, 0, 0, 0), (.iconst 0, 22, 0, 0, 0), (.istore_n 3, 23, 0, 0, 0)]
abbrev bX1_slack_23 : List xE := [(.iload_n 3, 24, 0, 0, 0), (.aload_n 0, 25, 0, 0, 0), (.getfield 31, 28, 0, 0, 1), (.getfield 133, 31, 1, 12, 0), (.if_icmp .ge 32, 34, 0, 63, 0), (.iload_n 2, 35, 0, 0, 0), (.aload_n 0, 36, 0, 0, 0), (.getfield 58, 39, 0, 5, 1), (.getfield 198, 42, 7, 3, 1), (.iload_n 3, 43, 0, 0, 0), (.iaload, 44, 0, 0, 0), (.iload_n 1, 45, 0, 0, 0), (.if_icmp .ge 9, 48, 0, 54, 0), (.iconst 1, 49, 0, 0, 0), (.iload_n 3, 50, 0, 0, 0), (.ishl, 51, 0, 0, 0), (.goto 4, 54, 0, 55, 0)]
abbrev bX1_slack_54 : List xE := [(.iconst 0, 55, 0, 0, 0)]
abbrev bX1_slack_55 : List xE := [(.ior, 56, 0, 0, 0), (.istore_n 2, 57, 0, 0, 0), (.iinc 3 1, 60, 0, 0, 0), (.goto (-37), 63, 0, 23, 0)]
abbrev bX1_slack_63 : List xE := [(.iload_n 2, 64, 0, 0, 0), (.ireturn, 65, 0, 0, 0)]
abbrev kX1_slack : List (Nat × List xE) := [(0, bX1_slack_0), (15, bX1_slack_15), (16, bX1_slack_16), (23, bX1_slack_23), (54, bX1_slack_54), (55, bX1_slack_55), (63, bX1_slack_63)]
abbrev lX1_slack : List (Nat × Nat × Nat × xS) := [(2, 1, 6, xm_this 0 S_X1_need)]
theorem oX1_slack_0  : xm_okb cI RX1 cX1_slack false 7 lX1_slack bX1_slack_0 0 := xo_0 dX1_slack_0 rfl trivial (xo_0 dX1_slack_1 rfl trivial (xo_0 dX1_slack_2 rfl rfl (xo_0 dX1_slack_5 rfl trivial (xo_0 dX1_slack_6 rfl (xo_bipush (by decide +kernel)) (xo_0 dX1_slack_8 rfl rfl (xo_0 dX1_slack_11 rfl trivial (xo_0 dX1_slack_12 rfl rfl (xo_n))))))))
theorem oX1_slack_15  : xm_okb cI RX1 cX1_slack false 7 lX1_slack bX1_slack_15 15 := xo_0 dX1_slack_15 rfl trivial (xo_n)
theorem oX1_slack_16  : xm_okb cI RX1 cX1_slack false 7 lX1_slack bX1_slack_16 16 := xo_c rfl (cv_X1_need dX1_slack_16 (Or.inl q1030) (by decide)) (xo_0 dX1_slack_19 rfl trivial (xo_0 dX1_slack_20 rfl trivial (xo_0 dX1_slack_21 rfl trivial (xo_0 dX1_slack_22 rfl trivial (xo_n)))))
theorem oX1_slack_23  : xm_okb cI RX1 cX1_slack false 7 lX1_slack bX1_slack_23 23 := xo_0 dX1_slack_23 rfl trivial (xo_0 dX1_slack_24 rfl trivial (xo_1 dX1_slack_25 rfl (xm_fg_of (Or.inl q716) (by decide) rfl (by decide) rfl rfl (Or.inl rfl) rfl) (xo_0 dX1_slack_28 rfl (xm_fg_of (Or.inr ⟨_, q560⟩) (by decide) rfl (by decide) rfl rfl (Or.inl rfl) rfl) (xo_0 dX1_slack_31 rfl rfl (xo_0 dX1_slack_34 rfl trivial (xo_0 dX1_slack_35 rfl trivial (xo_1 dX1_slack_36 rfl (xm_fg_of (Or.inl q724) (by decide) rfl (by decide) rfl rfl (Or.inl rfl) rfl) (xo_1 dX1_slack_39 rfl (xm_fg_of (Or.inr ⟨_, q669⟩) (by decide) rfl (by decide) rfl rfl (Or.inl rfl) rfl) (xo_0 dX1_slack_42 rfl trivial (xo_0 dX1_slack_43 rfl trivial (xo_0 dX1_slack_44 rfl trivial (xo_0 dX1_slack_45 rfl rfl (xo_0 dX1_slack_48 rfl trivial (xo_0 dX1_slack_49 rfl trivial (xo_0 dX1_slack_50 rfl trivial (xo_0 dX1_slack_51 rfl rfl (xo_n)))))))))))))))))
theorem oX1_slack_54  : xm_okb cI RX1 cX1_slack false 7 lX1_slack bX1_slack_54 54 := xo_0 dX1_slack_54 rfl trivial (xo_n)
theorem oX1_slack_55  : xm_okb cI RX1 cX1_slack false 7 lX1_slack bX1_slack_55 55 := xo_0 dX1_slack_55 rfl trivial (xo_0 dX1_slack_56 rfl trivial (xo_0 dX1_slack_57 rfl trivial (xo_0 dX1_slack_60 rfl rfl (xo_n))))
theorem oX1_slack_63  : xm_okb cI RX1 cX1_slack false 7 lX1_slack bX1_slack_63 63 := xo_0 dX1_slack_63 rfl trivial (xo_0 dX1_slack_64 rfl trivial (xo_n))
theorem oX1_slack  : ∀ q ∈ kX1_slack, xm_okb cI RX1 cX1_slack false 7 lX1_slack q.2 q.1 := by
  intro q hq
  simp only [List.mem_cons, List.not_mem_nil, or_false] at hq
  rcases hq with rfl | rfl | rfl | rfl | rfl | rfl | rfl
  · exact oX1_slack_0  
  · exact oX1_slack_15  
  · exact oX1_slack_16  
  · exact oX1_slack_23  
  · exact oX1_slack_54  
  · exact oX1_slack_55  
  · exact oX1_slack_63  
def S_X1_slack : xS := cU fun as P Z I Q QX => ∃ a L, as = [.ref 0, .int a] ∧ c_good P Z I L ∧ c_P P Z L (cG P I L) Q QX (q_slack (cG P I L) a)
theorem body_X1_slack : xm_Body 4 0 1 6 [] lX1_slack kX1_slack S_X1_slack := by
  intro X avs w Q QX hX0 hS
  have hG := xm_go [] hX0
  have hX := xm_go [23] hX0
  clear hX0
  obtain ⟨P, Z, I, rfl, a, L, rfl, hg, hQ⟩ := hS
  have hok := hg.ok
  obtain ⟨hn, h9, hm, h8⟩ := id hok
  have h5 := c_5 (P := P)
  refine ⟨rfl, ?_⟩
  rcases c_rc a 0 31 (A := 0) (B := Int32.ofInt 31) (by decide +kernel) (by decide +kernel) (by omega) (by omega) with ⟨n, -, hn6, rfl, e1⟩ | ⟨e1, h1⟩ | ⟨e1, h1, h2⟩
  · rw [q_slack, e1, g_ck_t] at hQ
    have loop : ∀ k, k ≤ c_p I → X 23 [some (.ref 0), some (.int (nI n)), some (.int (t_or k fun p => !decide (nI n ≤ gs (cA I 5) p))), some (.int (nI k))] [] (cW P Z I) 0 0 := by
      refine t_for fun k h1 ih => ?_
      refine hG _ _ _ _ _ _ ?_
      (conv => whnf)
      repeat' (first
        | ((with_reducible refine @And.intro (vp_in _ _) _ ?_ ?_); (· (first | with_reducible assumption | ((with_reducible refine t_vin ?_); decide) | ((with_reducible refine vp_in_nI ?_ ?_) <;> first | omega | decide) | (simp (disch := omega) only [xl_n, xl_m, nI_dec, nI_sb, nI_add, pk_mul]; (with_reducible refine vp_in_nI ?_ ?_) <;> first | omega | decide))); (conv => whnf))
        | (refine And.intro (by first | with_reducible assumption | exact (show cL _ _ = _ from rfl) | decide) ?_; (conv => whnf))
        | ((with_reducible refine @And.intro (_ = _) _ ?_ ?_); (· rfl); (conv => whnf))
        | ((with_reducible refine @And.intro (@LE.le Nat _ _ _) _ ?_ ?_); (· (first | exact Nat.zero_le _ | exact Nat.le_of_ble_eq_true rfl | omega)); (conv => whnf))
        | ((with_reducible refine @And.intro (@LT.lt Nat _ _ _) _ ?_ ?_); (· omega); (conv => whnf))
        | ((with_reducible refine @And.intro (∃ _, _ = _) _ ?_ ?_); (· exact ⟨_, rfl⟩); (conv => whnf))
        | ((with_reducible refine @And.intro (_ ∨ _) _ ?_ ?_); (· (first | exact Or.inl rfl | exact Or.inr rfl | exact t_b01 _ | assumption)); (conv => whnf))
        | ((with_reducible refine @And.intro (¬ (_ = _)) _ ?_ ?_); (· first | assumption | (with_reducible assumption)); (conv => whnf))
        | (refine hX _ _ _ _ _ _ ?_; (conv => whnf); fail_if_success show False)
        | (rw [c_si]; (conv => whnf))
        | (refine ⟨_, rfl, ?_⟩; (conv => whnf))
        | (refine ⟨_, _, rfl, ?_⟩; (conv => whnf))
        | (refine ⟨_, _, _, rfl, ?_⟩; (conv => whnf))
        | (refine ⟨_, _, _, _, rfl, ?_⟩; (conv => whnf))
        | fail)
      refine And.intro (fun c => ?_) (fun c => ?_) <;> (conv => whnf)
      · repeat' (first
          | ((with_reducible refine @And.intro (vp_in _ _) _ ?_ ?_); (· (first | with_reducible assumption | ((with_reducible refine t_vin ?_); decide) | ((with_reducible refine vp_in_nI ?_ ?_) <;> first | omega | decide) | (simp (disch := omega) only [xl_n, xl_m, nI_dec, nI_sb, nI_add, pk_mul]; (with_reducible refine vp_in_nI ?_ ?_) <;> first | omega | decide))); (conv => whnf))
          | (refine And.intro (by first | with_reducible assumption | exact (show cL _ _ = _ from rfl) | decide) ?_; (conv => whnf))
          | ((with_reducible refine @And.intro (_ = _) _ ?_ ?_); (· rfl); (conv => whnf))
          | ((with_reducible refine @And.intro (@LE.le Nat _ _ _) _ ?_ ?_); (· (first | exact Nat.zero_le _ | exact Nat.le_of_ble_eq_true rfl | omega)); (conv => whnf))
          | ((with_reducible refine @And.intro (@LT.lt Nat _ _ _) _ ?_ ?_); (· omega); (conv => whnf))
          | ((with_reducible refine @And.intro (∃ _, _ = _) _ ?_ ?_); (· exact ⟨_, rfl⟩); (conv => whnf))
          | ((with_reducible refine @And.intro (_ ∨ _) _ ?_ ?_); (· (first | exact Or.inl rfl | exact Or.inr rfl | exact t_b01 _ | assumption)); (conv => whnf))
          | ((with_reducible refine @And.intro (¬ (_ = _)) _ ?_ ?_); (· first | assumption | (with_reducible assumption)); (conv => whnf))
          | (refine hX _ _ _ _ _ _ ?_; (conv => whnf); fail_if_success show False)
          | (rw [c_si]; (conv => whnf))
          | (refine ⟨_, rfl, ?_⟩; (conv => whnf))
          | (refine ⟨_, _, rfl, ?_⟩; (conv => whnf))
          | (refine ⟨_, _, _, rfl, ?_⟩; (conv => whnf))
          | (refine ⟨_, _, _, _, rfl, ?_⟩; (conv => whnf))
          | fail)
        have : k = c_p I := Nat.le_antisymm h1 (t_kge hm c (by omega) (by omega))
        subst this
        exact c_ask hQ hg c_sp.rf rfl
      · have hk : k < c_p I := t_klt hm c (by omega)
        have := ih (k + 1) (by omega) (by omega)
        rw [t_or_s, cA_gs (by omega)] at this
        clear ih
        repeat' (first
          | ((with_reducible refine @And.intro (vp_in _ _) _ ?_ ?_); (· (first | with_reducible assumption | ((with_reducible refine t_vin ?_); decide) | ((with_reducible refine vp_in_nI ?_ ?_) <;> first | omega | decide) | (simp (disch := omega) only [xl_n, xl_m, nI_dec, nI_sb, nI_add, pk_mul]; (with_reducible refine vp_in_nI ?_ ?_) <;> first | omega | decide))); (conv => whnf))
          | (refine And.intro (by first | with_reducible assumption | exact (show cL _ _ = _ from rfl) | decide) ?_; (conv => whnf))
          | ((with_reducible refine @And.intro (_ = _) _ ?_ ?_); (· rfl); (conv => whnf))
          | ((with_reducible refine @And.intro (@LE.le Nat _ _ _) _ ?_ ?_); (· (first | exact Nat.zero_le _ | exact Nat.le_of_ble_eq_true rfl | omega)); (conv => whnf))
          | ((with_reducible refine @And.intro (@LT.lt Nat _ _ _) _ ?_ ?_); (· omega); (conv => whnf))
          | ((with_reducible refine @And.intro (∃ _, _ = _) _ ?_ ?_); (· exact ⟨_, rfl⟩); (conv => whnf))
          | ((with_reducible refine @And.intro (_ ∨ _) _ ?_ ?_); (· (first | exact Or.inl rfl | exact Or.inr rfl | exact t_b01 _ | assumption)); (conv => whnf))
          | ((with_reducible refine @And.intro (¬ (_ = _)) _ ?_ ?_); (· first | assumption | (with_reducible assumption)); (conv => whnf))
          | (refine hX _ _ _ _ _ _ ?_; (conv => whnf); fail_if_success show False)
          | (rw [c_si]; (conv => whnf))
          | (refine ⟨_, rfl, ?_⟩; (conv => whnf))
          | (refine ⟨_, _, rfl, ?_⟩; (conv => whnf))
          | (refine ⟨_, _, _, rfl, ?_⟩; (conv => whnf))
          | (refine ⟨_, _, _, _, rfl, ?_⟩; (conv => whnf))
          | (rw [c_tl h5]; (conv => whnf))
          | (rw [c_t7 h5]; (conv => whnf))
          | (rw [c_tf h5 (by decide)]; (conv => whnf))
          | (rw [c_t0 h5]; (conv => whnf))
          | (rw [c_t1 h5]; (conv => whnf))
          | (rw [c_t2 h5]; (conv => whnf))
          | (rw [c_t3 h5]; (conv => whnf))
          | (rw [c_t4 h5]; (conv => whnf))
          | (rw [c_t5 h5]; (conv => whnf))
          | (refine And.intro ⟨_, c_tl h5⟩ ?_; (conv => whnf))
          | (refine And.intro (fun c => ?_) (fun c => ?_) <;> (first | (exact absurd c (by decide +kernel)) | (conv => whnf)))
          | fail)
        all_goals clear hX hG hQ
        all_goals simp (disch := omega) only [xl_n, xl_m, nI_dec, nI_sb, xl_0, xl_1, cW_i, Nat.add_zero, Nat.reduceAdd, Nat.reduceMul, t_bn0, t_bn1, Classical.not_not, t_lt, nI_add, nI_1, pk_mul, nI_clamp, c_si, nI_eq, nI_leI, nM_ne, nM_ne, xm_set, xm_lv0, xm_psh] at *
        all_goals simpa [t_bit, c] using this
    have d1 : ¬ nI n < 0 := fun q => absurd ((nI_nn (n := n) (by omega)).1) (fun z => z q)
    have d2 : ¬ Int32.ofInt 31 < nI n := fun q => by
      have : nI n ≤ nI 31 := (nI_leI (by omega) (by omega)).mpr hn6
      exact absurd this (Int32.not_le.mpr q)
    repeat' (first
      | ((with_reducible refine @And.intro (vp_in _ _) _ ?_ ?_); (· (first | with_reducible assumption | ((with_reducible refine t_vin ?_); decide) | ((with_reducible refine vp_in_nI ?_ ?_) <;> first | omega | decide) | (simp (disch := omega) only [xl_n, xl_m, nI_dec, nI_sb, nI_add, pk_mul]; (with_reducible refine vp_in_nI ?_ ?_) <;> first | omega | decide))); (conv => whnf))
      | (refine And.intro (by first | with_reducible assumption | exact (show cL _ _ = _ from rfl) | decide) ?_; (conv => whnf))
      | ((with_reducible refine @And.intro (_ = _) _ ?_ ?_); (· rfl); (conv => whnf))
      | ((with_reducible refine @And.intro (@LE.le Nat _ _ _) _ ?_ ?_); (· (first | exact Nat.zero_le _ | exact Nat.le_of_ble_eq_true rfl | omega)); (conv => whnf))
      | ((with_reducible refine @And.intro (@LT.lt Nat _ _ _) _ ?_ ?_); (· omega); (conv => whnf))
      | ((with_reducible refine @And.intro (∃ _, _ = _) _ ?_ ?_); (· exact ⟨_, rfl⟩); (conv => whnf))
      | ((with_reducible refine @And.intro (_ ∨ _) _ ?_ ?_); (· (first | exact Or.inl rfl | exact Or.inr rfl | exact t_b01 _ | assumption)); (conv => whnf))
      | ((with_reducible refine @And.intro (¬ (_ = _)) _ ?_ ?_); (· first | assumption | (with_reducible assumption)); (conv => whnf))
      | (refine hX _ _ _ _ _ _ ?_; (conv => whnf); fail_if_success show False)
      | (rw [c_si]; (conv => whnf))
      | (refine ⟨_, rfl, ?_⟩; (conv => whnf))
      | (refine ⟨_, _, rfl, ?_⟩; (conv => whnf))
      | (refine ⟨_, _, _, rfl, ?_⟩; (conv => whnf))
      | (refine ⟨_, _, _, _, rfl, ?_⟩; (conv => whnf))
      | (refine ⟨true,rfl,?_⟩; (conv => whnf))
      | (refine ⟨false,rfl,?_⟩; (conv => whnf))
      | (refine And.intro (fun c => ?_) (fun c => ?_) <;> (first | (exact absurd c (by decide +kernel)) | (exact absurd c (by assumption)) | (exact False.elim (c (by assumption))) | (conv => whnf)))
      | fail)
    exact loop 0 (Nat.zero_le _)
  all_goals
    repeat' (first
      | ((with_reducible refine @And.intro (vp_in _ _) _ ?_ ?_); (· (first | with_reducible assumption | ((with_reducible refine t_vin ?_); decide) | ((with_reducible refine vp_in_nI ?_ ?_) <;> first | omega | decide) | (simp (disch := omega) only [xl_n, xl_m, nI_dec, nI_sb, nI_add, pk_mul]; (with_reducible refine vp_in_nI ?_ ?_) <;> first | omega | decide))); (conv => whnf))
      | (refine And.intro (by first | with_reducible assumption | exact (show cL _ _ = _ from rfl) | decide) ?_; (conv => whnf))
      | ((with_reducible refine @And.intro (_ = _) _ ?_ ?_); (· rfl); (conv => whnf))
      | ((with_reducible refine @And.intro (@LE.le Nat _ _ _) _ ?_ ?_); (· (first | exact Nat.zero_le _ | exact Nat.le_of_ble_eq_true rfl | omega)); (conv => whnf))
      | ((with_reducible refine @And.intro (@LT.lt Nat _ _ _) _ ?_ ?_); (· omega); (conv => whnf))
      | ((with_reducible refine @And.intro (∃ _, _ = _) _ ?_ ?_); (· exact ⟨_, rfl⟩); (conv => whnf))
      | ((with_reducible refine @And.intro (_ ∨ _) _ ?_ ?_); (· (first | exact Or.inl rfl | exact Or.inr rfl | exact t_b01 _ | assumption)); (conv => whnf))
      | ((with_reducible refine @And.intro (¬ (_ = _)) _ ?_ ?_); (· first | assumption | (with_reducible assumption)); (conv => whnf))
      | (refine hX _ _ _ _ _ _ ?_; (conv => whnf); fail_if_success show False)
      | (rw [c_si]; (conv => whnf))
      | (refine ⟨_, rfl, ?_⟩; (conv => whnf))
      | (refine ⟨_, _, rfl, ?_⟩; (conv => whnf))
      | (refine ⟨_, _, _, rfl, ?_⟩; (conv => whnf))
      | (refine ⟨_, _, _, _, rfl, ?_⟩; (conv => whnf))
      | (refine ⟨true,rfl,?_⟩; (conv => whnf))
      | (refine ⟨false,rfl,?_⟩; (conv => whnf))
      | (refine And.intro (fun c => ?_) (fun c => ?_) <;> (first | (exact absurd c (by decide +kernel)) | (exact absurd c (by assumption)) | (exact False.elim (c (by assumption))) | (conv => whnf)))
      | fail)
    intro x hx
    exact c_ref1 hQ hg e1 hx n1_0
theorem ct_X1_slack : xm_Ct cI yX1_slack (ws_ yX1_slack cX1_slack 4 (some .int)) 7 1 6 S_X1_slack := xm_enter (rt := 0) (init := false) (by decide +kernel) rfl (fun h => by cases h) (Or.inl ⟨rfl, rfl⟩) (oX1_slack) body_X1_slack
theorem cv_X1_slack {own : String} {cc : ByteArray} {fr pc idx : Nat} (hdg : decode cc pc = .ok (.invokevirtual idx, 3)) (hl : xm_ml own idx yX1_slack) (hfr : 7 < fr) : xm_CallOK cI own cc fr pc (pc + 3) 2 1 6 (xm_this 0 S_X1_slack) := xm_callV 0 cI_good (ct_X1_slack) hdg hl q1845 q1846 q116 q1847 rfl rfl (by decide +kernel) hfr (by decide)
