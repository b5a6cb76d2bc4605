/-! ===== a troupe: kin, score, choice ===== -/
set_option maxRecDepth 100000
theorem nI_or (a b : Nat) : nI (a ||| b) = nI a ||| nI b := by
  apply Int32.toBitVec_inj.mp
  rw [Int32.toBitVec_or]
  show BitVec.ofNat 32 (a ||| b) = BitVec.ofNat 32 a ||| BitVec.ofNat 32 b
  exact BitVec.ofNat_or
theorem t_bit_2 {k : Nat} (h : k < 9) : t_bit k = nI (2 ^ k) := by
  have : ∀ k, k < 9 → t_bit k = nI (2 ^ k) := by decide +kernel
  exact this k h
theorem t_or_lt : ∀ {n : Nat} {p : Nat → Bool}, n ≤ 9 → ∃ m, m < 2 ^ n ∧ t_or n p = nI m
  | 0, p, _ => ⟨0, by decide, rfl⟩
  | n + 1, p, h => by
    obtain ⟨m, hm, e⟩ := t_or_lt (n := n) (p := p) (by omega)
    rw [t_or_s, e]
    have h2 : 2 ^ n < 2 ^ (n + 1) := Nat.pow_lt_pow_right (by decide) (by omega)
    cases p n with
    | true =>
      refine ⟨m ||| 2 ^ n, Nat.or_lt_two_pow (by omega) h2, ?_⟩
      rw [if_pos rfl, t_bit_2 (by omega), nI_or]
    | false =>
      refine ⟨m, by omega, ?_⟩
      rw [if_neg (by decide)]
      have := nI_or m 0
      rw [Nat.or_zero] at this
      exact this.symm
theorem t_or_m9 {n : Nat} {p : Nat → Bool} (h : n ≤ 9) : t_m9 (t_or n p) := by
  obtain ⟨m, hm, e⟩ := t_or_lt (n := n) (p := p) h
  have : 2 ^ n ≤ 2 ^ 9 := Nat.pow_le_pow_right (by decide) h
  exact ⟨m, by omega, e⟩
theorem t_and_or (a b m : Int32) : (a ||| b) &&& m = (a &&& m) ||| (b &&& m) := b_ext fun i _ => by
  rw [b_and, b_or, b_or, b_and, b_and]
  cases bt a i <;> cases bt b i <;> cases bt m i <;> rfl
theorem t_and_as (a b m : Int32) : (a &&& b) &&& m = a &&& (b &&& m) := b_ext fun i _ => by
  rw [b_and, b_and, b_and, b_and]
  cases bt a i <;> cases bt b i <;> cases bt m i <;> rfl
/-- who works, and who worked last -/
def g_w (T : gT) : Prop := ∀ p, t_m9 (gw T p) ∧ (gl T p = nM ∨ ∃ l, l < 9 ∧ gl T p = nI l)
theorem g_w.m9 {T : gT} {p : Nat} (h : g_w T) : t_m9 (gw T p) := (h p).1
/-- with whom, this one left out -/
theorem g_with_eq {T : gT} {p h : Nat} (hw : g_w T) (hh : h < 9) : g_with T p &&& (t_bit h ^^^ nM) = (gw T p &&& (t_bit h ^^^ nM)) ||| (if gl T p = nM ∨ gl T p = nI h then nI 0 else nI 1 <<< (gl T p &&& 31)) := by
  unfold g_with
  rw [t_and_or]
  congr 1
  rcases (hw p).2 with e | ⟨l, hl, e⟩
  · rw [if_pos e, if_pos (Or.inl e)]
    have : ∀ h, h < 9 → nI 0 &&& (t_bit h ^^^ nM) = nI 0 := by decide +kernel
    exact this h hh
  · rw [e, if_neg (nM_ne (by omega))]
    by_cases q : l = h
    · subst q
      rw [if_pos (Or.inr rfl)]
      have : ∀ h, h < 9 → (nI 1 <<< (nI h &&& 31)) &&& (t_bit h ^^^ nM) = nI 0 := by decide +kernel
      exact this l hh
    · have q' : ¬ (nI l = nM ∨ nI l = nI h) := by
        rintro (z | z)
        · exact nM_ne (by omega) z
        · have := congrArg Int32.toNatClampNeg z
          rw [nI_clamp (by omega), nI_clamp (by omega)] at this
          exact q this
      rw [if_neg q']
      have : ∀ h, h < 9 → ∀ l, l < 9 → l ≠ h → (nI 1 <<< (nI l &&& 31)) &&& (t_bit h ^^^ nM) = nI 1 <<< (nI l &&& 31) := by decide +kernel
      exact this h hh l hl q
abbrev bX10_isKin_0 : List xE := [(.aload_n 0, 1, 0, 0, 0), (.getfield 19, 4, 7, 1, 1), (.iload_n 1, 5, 0, 0, 0), (.iaload, 6, 0, 0, 0), (.iconst 1, 7, 0, 0, 0), (.iload_n 2, 8, 0, 0, 0), (.ishl, 9, 0, 0, 0), (.iconst (-1), 10, 0, 0, 0), (.ixor, 11, 0, 0, 0), (.iand, 12, 0, 0, 0), (.aload_n 0, 13, 0, 0, 0), (.getfield 22, 16, 7, 2, 1), (.iload_n 1, 17, 0, 0, 0), (.iaload, 18, 0, 0, 0), (.iconst (-1), 19, 0, 0, 0), (.if_icmp .eq 13, 22, 0, 32, 0), (.aload_n 0, 23, 0, 0, 0), (.getfield 22, 26, 7, 2, 1), (.iload_n 1, 27, 0, 0, 0), (.iaload, 28, 0, 0, 0), (.iload_n 2, 29, 0, 0, 0), (.if_icmp .ne 7, 32, 0, 36, 0)]
abbrev bX10_isKin_32 : List xE := [(.iconst 0, 33, 0, 0, 0), (.goto 11, 36, 0, 44, 0)]
abbrev bX10_isKin_36 : List xE := [(.iconst 1, 37, 0, 0, 0), (.aload_n 0, 38, 0, 0, 0), (.getfield 22, 41, 7, 2, 1), (.iload_n 1, 42, 0, 0, 0), (.iaload, 43, 0, 0, 0), (.ishl, 44, 0, 0, 0)]
abbrev bX10_isKin_44 : List xE := [(.ior, 45, 0, 0, 0), (.istore_n 3, 46, 0, 0, 0), (.iconst 0, 47, 0, 0, 0), (.istore 4, 49, 0, 0, 0)]
abbrev bX10_isKin_49 : List xE := [(.iload 4, 51, 0, 0, 0), (.aload_n 0, 52, 0, 0, 0), (.getfield 3, 55, 7, 7, 1), (.getfield 38, 58, 0, 0, 1), (.getfield 64, 61, 1, 12, 0), (.if_icmp .ge 39, 64, 0, 100, 0), (.iload 4, 66, 0, 0, 0), (.iload_n 1, 67, 0, 0, 0), (.if_icmp .eq 27, 70, 0, 94, 0), (.aload_n 0, 71, 0, 0, 0), (.iload 4, 73, 0, 0, 0), (.iload_n 2, 74, 0, 0, 0), (.invokevirtual 54, 77, 0, 0, 9), (.ifCond .eq 17, 80, 0, 94, 0), (.aload_n 0, 81, 0, 0, 0), (.getfield 19, 84, 7, 1, 1), (.iload 4, 86, 0, 0, 0), (.iaload, 87, 0, 0, 0), (.iload_n 3, 88, 0, 0, 0), (.iand, 89, 0, 0, 0), (.ifCond .eq 5, 92, 0, 94, 0), (.iconst 1, 93, 0, 0, 0), (.ireturn, 94, 0, 0, 0)]
abbrev bX10_isKin_94 : List xE := [(.iinc 4 1, 97, 0, 0, 0), (.goto (-48), 100, 0, 49, 0)]
abbrev bX10_isKin_100 : List xE := [(.iconst 0, 101, 0, 0, 0), (.ireturn, 102, 0, 0, 0)]
abbrev kX10_isKin : List (Nat × List xE) := [(0, bX10_isKin_0), (32, bX10_isKin_32), (36, bX10_isKin_36), (44, bX10_isKin_44), (49, bX10_isKin_49), (94, bX10_isKin_94), (100, bX10_isKin_100)]
abbrev lX10_isKin : List (Nat × Nat × Nat × xS) := [(3, 0, 0, xm_this 7 S_X10_isOf)]
theorem oX10_isKin_0  : xm_okb cI RX10 cX10_isKin false 2 lX10_isKin bX10_isKin_0 0 := xo_0 dX10_isKin_0 rfl trivial (xo_1 dX10_isKin_1 rfl (xm_fg_of (Or.inl q664) (by decide) rfl (by decide) rfl rfl (Or.inl rfl) rfl) (xo_0 dX10_isKin_4 rfl trivial (xo_0 dX10_isKin_5 rfl trivial (xo_0 dX10_isKin_6 rfl trivial (xo_0 dX10_isKin_7 rfl trivial (xo_0 dX10_isKin_8 rfl trivial (xo_0 dX10_isKin_9 rfl trivial (xo_0 dX10_isKin_10 rfl trivial (xo_0 dX10_isKin_11 rfl trivial (xo_0 dX10_isKin_12 rfl trivial (xo_1 dX10_isKin_13 rfl (xm_fg_of (Or.inl q666) (by decide) rfl (by decide) rfl rfl (Or.inl rfl) rfl) (xo_0 dX10_isKin_16 rfl trivial (xo_0 dX10_isKin_17 rfl trivial (xo_0 dX10_isKin_18 rfl trivial (xo_0 dX10_isKin_19 rfl rfl (xo_0 dX10_isKin_22 rfl trivial (xo_1 dX10_isKin_23 rfl (xm_fg_of (Or.inl q666) (by decide) rfl (by decide) rfl rfl (Or.inl rfl) rfl) (xo_0 dX10_isKin_26 rfl trivial (xo_0 dX10_isKin_27 rfl trivial (xo_0 dX10_isKin_28 rfl trivial (xo_0 dX10_isKin_29 rfl rfl (xo_n))))))))))))))))))))))
theorem oX10_isKin_32  : xm_okb cI RX10 cX10_isKin false 2 lX10_isKin bX10_isKin_32 32 := xo_0 dX10_isKin_32 rfl trivial (xo_0 dX10_isKin_33 rfl rfl (xo_n))
theorem oX10_isKin_36  : xm_okb cI RX10 cX10_isKin false 2 lX10_isKin bX10_isKin_36 36 := xo_0 dX10_isKin_36 rfl trivial (xo_0 dX10_isKin_37 rfl trivial (xo_1 dX10_isKin_38 rfl (xm_fg_of (Or.inl q666) (by decide) rfl (by decide) rfl rfl (Or.inl rfl) rfl) (xo_0 dX10_isKin_41 rfl trivial (xo_0 dX10_isKin_42 rfl trivial (xo_0 dX10_isKin_43 rfl trivial (xo_n))))))
theorem oX10_isKin_44  : xm_okb cI RX10 cX10_isKin false 2 lX10_isKin bX10_isKin_44 44 := xo_0 dX10_isKin_44 rfl trivial (xo_0 dX10_isKin_45 rfl trivial (xo_0 dX10_isKin_46 rfl trivial (xo_0 dX10_isKin_47 rfl trivial (xo_n))))
theorem oX10_isKin_49  : xm_okb cI RX10 cX10_isKin false 2 lX10_isKin bX10_isKin_49 49 := xo_0 dX10_isKin_49 rfl trivial (xo_0 dX10_isKin_51 rfl trivial (xo_1 dX10_isKin_52 rfl (xm_fg_of (Or.inl q676) (by decide) rfl (by decide) rfl rfl (Or.inl rfl) rfl) (xo_1 dX10_isKin_55 rfl (xm_fg_of (Or.inr ⟨_, q717⟩) (by decide) rfl (by decide) rfl rfl (Or.inl rfl) rfl) (xo_0 dX10_isKin_58 rfl (xm_fg_of (Or.inr ⟨_, q559⟩) (by decide) rfl (by decide) rfl rfl (Or.inl rfl) rfl) (xo_0 dX10_isKin_61 rfl rfl (xo_0 dX10_isKin_64 rfl trivial (xo_0 dX10_isKin_66 rfl trivial (xo_0 dX10_isKin_67 rfl rfl (xo_0 dX10_isKin_70 rfl trivial (xo_0 dX10_isKin_71 rfl trivial (xo_0 dX10_isKin_73 rfl trivial (xo_c rfl (cv_X10_isOf dX10_isKin_74 (Or.inl q703) (by decide)) (xo_0 dX10_isKin_77 rfl rfl (xo_0 dX10_isKin_80 rfl trivial (xo_1 dX10_isKin_81 rfl (xm_fg_of (Or.inl q664) (by decide) rfl (by decide) rfl rfl (Or.inl rfl) rfl) (xo_0 dX10_isKin_84 rfl trivial (xo_0 dX10_isKin_86 rfl trivial (xo_0 dX10_isKin_87 rfl trivial (xo_0 dX10_isKin_88 rfl trivial (xo_0 dX10_isKin_89 rfl rfl (xo_0 dX10_isKin_92 rfl trivial (xo_0 dX10_isKin_93 rfl trivial (xo_n)))))))))))))))))))))))
theorem oX10_isKin_94  : xm_okb cI RX10 cX10_isKin false 2 lX10_isKin bX10_isKin_94 94 := xo_0 dX10_isKin_94 rfl trivial (xo_0 dX10_isKin_97 rfl rfl (xo_n))
theorem oX10_isKin_100  : xm_okb cI RX10 cX10_isKin false 2 lX10_isKin bX10_isKin_100 100 := xo_0 dX10_isKin_100 rfl trivial (xo_0 dX10_isKin_101 rfl trivial (xo_n))
theorem oX10_isKin  : ∀ q ∈ kX10_isKin, xm_okb cI RX10 cX10_isKin false 2 lX10_isKin q.2 q.1 := by
  intro q hq
  simp only [List.mem_cons, List.not_mem_nil, or_false] at hq
  rcases hq with rfl | rfl | rfl | rfl | rfl | rfl | rfl
  · exact oX10_isKin_0  
  · exact oX10_isKin_32  
  · exact oX10_isKin_36  
  · exact oX10_isKin_44  
  · exact oX10_isKin_49  
  · exact oX10_isKin_94  
  · exact oX10_isKin_100  
def S_X10_isKin : xS := cU fun as P X I Q QX => ∃ r p h L, as = [.ref r, .int (nI p), .int (nI h)] ∧ c_tr P r ∧ c_ok I ∧ p < 8 ∧ h < 9 ∧ g_w (cA I r) ∧ Q (some (.int (t_b (g_kin (cK I L) (cA I r) p h)))) I
theorem body_X10_isKin : xm_Body 5 1 0 0 [] lX10_isKin kX10_isKin S_X10_isKin := by
  intro X avs w Q QX hX0 hS
  have hG := xm_go [] hX0
  have hX := xm_go [44,49] hX0
  clear hX0
  obtain ⟨P, Z, I, rfl, r, p, h, L, rfl, hr, hok, hp, hh, hw, hQ⟩ := hS
  obtain ⟨-, -, hn, h8⟩ := id hok
  have key : ∀ q, q < 8 → decide ((gw (cA I r) q &&& g_with (cA I r) p) &&& (t_bit h ^^^ nM) = nI 0) = decide (I (10 * r + 1) q &&& ((I (10 * r + 1) p &&& (t_bit h ^^^ nM)) ||| (if I (10 * r + 2) p = nM ∨ I (10 * r + 2) p = nI h then nI 0 else nI 1 <<< (I (10 * r + 2) p &&& 31))) = nI 0) := by
    intro q hq
    rw [t_and_as, g_with_eq hw hh, cA_gw hq, cA_gw hp, cA_gl hp]
  generalize hof : ((I (10 * r + 1) p &&& (t_bit h ^^^ nM)) ||| (if I (10 * r + 2) p = nM ∨ I (10 * r + 2) p = nI h then nI 0 else nI 1 <<< (I (10 * r + 2) p &&& 31))) = o at key
  have loop : ∀ k, k ≤ c_p I → t_ex k (fun q => decide (q ≠ p) && t_has (gw (cA I r) q) h && !decide ((gw (cA I r) q &&& g_with (cA I r) p) &&& (t_bit h ^^^ nM) = nI 0)) = false → X 49 [some (.ref r), some (.int (nI p)), some (.int (nI h)), some (.int o), some (.int (nI k))] [] (cW P Z I) 0 0 := by
    refine t_for fun k h1 ih hf => ?_
    refine hG _ _ _ _ _ _ ?_
    (conv => whnf)
    repeat' (first
      | ((with_reducible refine @And.intro (vp_in _ _) _ ?_ ?_); (· (first | with_reducible assumption | ((with_reducible refine t_vin ?_); decide) | ((with_reducible refine vp_in_nI ?_ ?_) <;> first | omega | decide) | (simp (disch := omega) only [xl_n, xl_m, nI_dec, nI_sb, nI_add, pk_mul]; (with_reducible refine vp_in_nI ?_ ?_) <;> first | omega | decide))); (conv => whnf))
      | (refine And.intro (by first | with_reducible assumption | exact (show cL _ _ = _ from rfl) | decide) ?_; (conv => whnf))
      | ((with_reducible refine @And.intro (_ = _) _ ?_ ?_); (· rfl); (conv => whnf))
      | ((with_reducible refine @And.intro (@LE.le Nat _ _ _) _ ?_ ?_); (· (first | exact Nat.zero_le _ | exact Nat.le_of_ble_eq_true rfl | omega)); (conv => whnf))
      | ((with_reducible refine @And.intro (@LT.lt Nat _ _ _) _ ?_ ?_); (· omega); (conv => whnf))
      | ((with_reducible refine @And.intro (∃ _, _ = _) _ ?_ ?_); (· exact ⟨_, rfl⟩); (conv => whnf))
      | ((with_reducible refine @And.intro (_ ∨ _) _ ?_ ?_); (· (first | exact Or.inl rfl | exact Or.inr rfl | exact t_b01 _ | assumption)); (conv => whnf))
      | ((with_reducible refine @And.intro (¬ (_ = _)) _ ?_ ?_); (· first | assumption | (with_reducible assumption)); (conv => whnf))
      | (refine hX _ _ _ _ _ _ ?_; (conv => whnf); fail_if_success show False)
      | (rw [c_si]; (conv => whnf))
      | (refine ⟨_, rfl, ?_⟩; (conv => whnf))
      | (refine ⟨_, _, rfl, ?_⟩; (conv => whnf))
      | (refine ⟨_, _, _, rfl, ?_⟩; (conv => whnf))
      | (refine ⟨_, _, _, _, rfl, ?_⟩; (conv => whnf))
      | (rw [c_tl hr]; (conv => whnf))
      | (rw [c_t7 hr]; (conv => whnf))
      | (rw [c_tf hr (by decide)]; (conv => whnf))
      | (rw [c_t0 hr]; (conv => whnf))
      | (rw [c_t1 hr]; (conv => whnf))
      | (rw [c_t2 hr]; (conv => whnf))
      | (rw [c_t3 hr]; (conv => whnf))
      | (rw [c_t4 hr]; (conv => whnf))
      | (rw [c_t5 hr]; (conv => whnf))
      | (refine And.intro ⟨_, c_tl hr⟩ ?_; (conv => whnf))
      | fail)
    refine And.intro (fun c => ?_) (fun c => ?_) <;> (conv => whnf)
    · repeat' (first
        | ((with_reducible refine @And.intro (vp_in _ _) _ ?_ ?_); (· (first | with_reducible assumption | ((with_reducible refine t_vin ?_); decide) | ((with_reducible refine vp_in_nI ?_ ?_) <;> first | omega | decide) | (simp (disch := omega) only [xl_n, xl_m, nI_dec, nI_sb, nI_add, pk_mul]; (with_reducible refine vp_in_nI ?_ ?_) <;> first | omega | decide))); (conv => whnf))
        | (refine And.intro (by first | with_reducible assumption | exact (show cL _ _ = _ from rfl) | decide) ?_; (conv => whnf))
        | ((with_reducible refine @And.intro (_ = _) _ ?_ ?_); (· rfl); (conv => whnf))
        | ((with_reducible refine @And.intro (@LE.le Nat _ _ _) _ ?_ ?_); (· (first | exact Nat.zero_le _ | exact Nat.le_of_ble_eq_true rfl | omega)); (conv => whnf))
        | ((with_reducible refine @And.intro (@LT.lt Nat _ _ _) _ ?_ ?_); (· omega); (conv => whnf))
        | ((with_reducible refine @And.intro (∃ _, _ = _) _ ?_ ?_); (· exact ⟨_, rfl⟩); (conv => whnf))
        | ((with_reducible refine @And.intro (_ ∨ _) _ ?_ ?_); (· (first | exact Or.inl rfl | exact Or.inr rfl | exact t_b01 _ | assumption)); (conv => whnf))
        | ((with_reducible refine @And.intro (¬ (_ = _)) _ ?_ ?_); (· first | assumption | (with_reducible assumption)); (conv => whnf))
        | (refine hX _ _ _ _ _ _ ?_; (conv => whnf); fail_if_success show False)
        | (rw [c_si]; (conv => whnf))
        | (refine ⟨_, rfl, ?_⟩; (conv => whnf))
        | (refine ⟨_, _, rfl, ?_⟩; (conv => whnf))
        | (refine ⟨_, _, _, rfl, ?_⟩; (conv => whnf))
        | (refine ⟨_, _, _, _, rfl, ?_⟩; (conv => whnf))
        | fail)
      have : k = c_p I := Nat.le_antisymm h1 (t_kge hn c (by omega) (by omega))
      subst this
      have e : g_kin (cK I L) (cA I r) p h = false := hf
      rw [e] at hQ
      exact hQ
    · have hk : k < c_p I := t_klt hn c (by omega)
      have key := key k (by omega)
      repeat' (first
        | ((with_reducible refine @And.intro (vp_in _ _) _ ?_ ?_); (· (first | with_reducible assumption | ((with_reducible refine t_vin ?_); decide) | ((with_reducible refine vp_in_nI ?_ ?_) <;> first | omega | decide) | (simp (disch := omega) only [xl_n, xl_m, nI_dec, nI_sb, nI_add, pk_mul]; (with_reducible refine vp_in_nI ?_ ?_) <;> first | omega | decide))); (conv => whnf))
        | (refine And.intro (by first | with_reducible assumption | exact (show cL _ _ = _ from rfl) | decide) ?_; (conv => whnf))
        | ((with_reducible refine @And.intro (_ = _) _ ?_ ?_); (· rfl); (conv => whnf))
        | ((with_reducible refine @And.intro (@LE.le Nat _ _ _) _ ?_ ?_); (· (first | exact Nat.zero_le _ | exact Nat.le_of_ble_eq_true rfl | omega)); (conv => whnf))
        | ((with_reducible refine @And.intro (@LT.lt Nat _ _ _) _ ?_ ?_); (· omega); (conv => whnf))
        | ((with_reducible refine @And.intro (∃ _, _ = _) _ ?_ ?_); (· exact ⟨_, rfl⟩); (conv => whnf))
        | ((with_reducible refine @And.intro (_ ∨ _) _ ?_ ?_); (· (first | exact Or.inl rfl | exact Or.inr rfl | exact t_b01 _ | assumption)); (conv => whnf))
        | ((with_reducible refine @And.intro (¬ (_ = _)) _ ?_ ?_); (· first | assumption | (with_reducible assumption)); (conv => whnf))
        | (refine hX _ _ _ _ _ _ ?_; (conv => whnf); fail_if_success show False)
        | (rw [c_si]; (conv => whnf))
        | (refine ⟨_, rfl, ?_⟩; (conv => whnf))
        | (refine ⟨_, _, rfl, ?_⟩; (conv => whnf))
        | (refine ⟨_, _, _, rfl, ?_⟩; (conv => whnf))
        | (refine ⟨_, _, _, _, rfl, ?_⟩; (conv => whnf))
        | (rw [c_tl hr]; (conv => whnf))
        | (rw [c_t7 hr]; (conv => whnf))
        | (rw [c_tf hr (by decide)]; (conv => whnf))
        | (rw [c_t0 hr]; (conv => whnf))
        | (rw [c_t1 hr]; (conv => whnf))
        | (rw [c_t2 hr]; (conv => whnf))
        | (rw [c_t3 hr]; (conv => whnf))
        | (rw [c_t4 hr]; (conv => whnf))
        | (rw [c_t5 hr]; (conv => whnf))
        | (refine And.intro ⟨_, c_tl hr⟩ ?_; (conv => whnf))
        | (refine And.intro (fun c => ?_) (fun c => ?_) <;> (first | (exact absurd c (by decide +kernel)) | (conv => whnf)))
        | fail)
      all_goals simp (disch := omega) only [xl_n, xl_m, nI_dec, nI_sb, xl_0, xl_1, cW_i, Nat.add_zero, Nat.reduceAdd, Nat.reduceMul, t_bn0, t_bn1, Classical.not_not, t_lt, nI_add, nI_1, pk_mul, nI_clamp, c_si, nI_eq, nI_leI, nM_ne, nM_ne, xm_set, xm_lv0, xm_psh] at *
      · refine ih (k + 1) (by omega) (by omega) (t_ex_f hf ?_)
        simp [*]
      · refine ih (k + 1) (by omega) (by omega) (t_ex_f hf ?_)
        simp [cA_gw (show k < 8 by omega), *]
      · refine ih (k + 1) (by omega) (by omega) (t_ex_f hf ?_)
        rw [key]
        simp [*]
      · have e : g_kin (cK I L) (cA I r) p h = true := t_ex_t hk (by
          rw [key]
          simp [cA_gw (show k < 8 by omega), *])
        rw [e] at hQ
        exact hQ
  have fin := loop 0 (Nat.zero_le _) rfl
  have e44 : ∀ v, v = (if I (10 * r + 2) p = nM ∨ I (10 * r + 2) p = nI h then nI 0 else nI 1 <<< (I (10 * r + 2) p &&& 31)) → X 44 [some (.ref r), some (.int (nI p)), some (.int (nI h)), none, none] [.int v, .int (I (10 * r + 1) p &&& (t_bit h ^^^ nM))] (cW P Z I) 0 0 := by
    intro v hv
    clear loop
    subst hv
    subst hof
    refine hG _ _ _ _ _ _ ?_
    (conv => whnf)
    repeat' (first
      | ((with_reducible refine @And.intro (vp_in _ _) _ ?_ ?_); (· (first | with_reducible assumption | ((with_reducible refine t_vin ?_); decide) | ((with_reducible refine vp_in_nI ?_ ?_) <;> first | omega | decide) | (simp (disch := omega) only [xl_n, xl_m, nI_dec, nI_sb, nI_add, pk_mul]; (with_reducible refine vp_in_nI ?_ ?_) <;> first | omega | decide))); (conv => whnf))
      | (refine And.intro (by first | with_reducible assumption | exact (show cL _ _ = _ from rfl) | decide) ?_; (conv => whnf))
      | ((with_reducible refine @And.intro (_ = _) _ ?_ ?_); (· rfl); (conv => whnf))
      | ((with_reducible refine @And.intro (@LE.le Nat _ _ _) _ ?_ ?_); (· (first | exact Nat.zero_le _ | exact Nat.le_of_ble_eq_true rfl | omega)); (conv => whnf))
      | ((with_reducible refine @And.intro (@LT.lt Nat _ _ _) _ ?_ ?_); (· omega); (conv => whnf))
      | ((with_reducible refine @And.intro (∃ _, _ = _) _ ?_ ?_); (· exact ⟨_, rfl⟩); (conv => whnf))
      | ((with_reducible refine @And.intro (_ ∨ _) _ ?_ ?_); (· (first | exact Or.inl rfl | exact Or.inr rfl | exact t_b01 _ | assumption)); (conv => whnf))
      | ((with_reducible refine @And.intro (¬ (_ = _)) _ ?_ ?_); (· first | assumption | (with_reducible assumption)); (conv => whnf))
      | (refine hX _ _ _ _ _ _ ?_; (conv => whnf); fail_if_success show False)
      | (rw [c_si]; (conv => whnf))
      | (refine ⟨_, rfl, ?_⟩; (conv => whnf))
      | (refine ⟨_, _, rfl, ?_⟩; (conv => whnf))
      | (refine ⟨_, _, _, rfl, ?_⟩; (conv => whnf))
      | (refine ⟨_, _, _, _, rfl, ?_⟩; (conv => whnf))
      | fail)
    exact fin
  clear fin loop
  refine ⟨rfl, ?_⟩
  have ep : (cW P Z I).2.1 (10 * r + 1) (nI p).toNatClampNeg = I (10 * r + 1) p := by rw [nI_clamp (by omega)]; rfl
  have el : (cW P Z I).2.1 (10 * r + 2) (nI p).toNatClampNeg = I (10 * r + 2) p := by rw [nI_clamp (by omega)]; rfl
  repeat' (first
    | ((with_reducible refine @And.intro (vp_in _ _) _ ?_ ?_); (· (first | with_reducible assumption | ((with_reducible refine t_vin ?_); decide) | ((with_reducible refine vp_in_nI ?_ ?_) <;> first | omega | decide) | (simp (disch := omega) only [xl_n, xl_m, nI_dec, nI_sb, nI_add, pk_mul]; (with_reducible refine vp_in_nI ?_ ?_) <;> first | omega | decide))); (conv => whnf))
    | (refine And.intro (by first | with_reducible assumption | exact (show cL _ _ = _ from rfl) | decide) ?_; (conv => whnf))
    | ((with_reducible refine @And.intro (_ = _) _ ?_ ?_); (· rfl); (conv => whnf))
    | ((with_reducible refine @And.intro (@LE.le Nat _ _ _) _ ?_ ?_); (· (first | exact Nat.zero_le _ | exact Nat.le_of_ble_eq_true rfl | omega)); (conv => whnf))
    | ((with_reducible refine @And.intro (@LT.lt Nat _ _ _) _ ?_ ?_); (· omega); (conv => whnf))
    | ((with_reducible refine @And.intro (∃ _, _ = _) _ ?_ ?_); (· exact ⟨_, rfl⟩); (conv => whnf))
    | ((with_reducible refine @And.intro (_ ∨ _) _ ?_ ?_); (· (first | exact Or.inl rfl | exact Or.inr rfl | exact t_b01 _ | assumption)); (conv => whnf))
    | ((with_reducible refine @And.intro (¬ (_ = _)) _ ?_ ?_); (· first | assumption | (with_reducible assumption)); (conv => whnf))
    | (refine hX _ _ _ _ _ _ ?_; (conv => whnf); fail_if_success show False)
    | (rw [c_si]; (conv => whnf))
    | (refine ⟨_, rfl, ?_⟩; (conv => whnf))
    | (refine ⟨_, _, rfl, ?_⟩; (conv => whnf))
    | (refine ⟨_, _, _, rfl, ?_⟩; (conv => whnf))
    | (refine ⟨_, _, _, _, rfl, ?_⟩; (conv => whnf))
    | (rw [ep]; (conv => whnf))
    | (rw [el]; (conv => whnf))
    | (rw [c_tl hr]; (conv => whnf))
    | (rw [c_t7 hr]; (conv => whnf))
    | (rw [c_tf hr (by decide)]; (conv => whnf))
    | (rw [c_t0 hr]; (conv => whnf))
    | (rw [c_t1 hr]; (conv => whnf))
    | (rw [c_t2 hr]; (conv => whnf))
    | (rw [c_t3 hr]; (conv => whnf))
    | (rw [c_t4 hr]; (conv => whnf))
    | (rw [c_t5 hr]; (conv => whnf))
    | (refine And.intro ⟨_, c_tl hr⟩ ?_; (conv => whnf))
    | (refine And.intro (fun c => ?_) (fun c => ?_) <;> (first | (exact absurd c (by decide +kernel)) | (conv => whnf)))
    | fail)
  · have c1 : I (10 * r + 2) p = Int32.ofInt (-1) := c
    exact e44 _ (by rw [if_pos (Or.inl (c1.trans xl_m))]; exact xl_n.1)
  · rename_i c0
    have c1 : ¬ I (10 * r + 2) p = Int32.ofInt (-1) := c0
    have c2 : ¬ I (10 * r + 2) p = nI h := c
    refine e44 _ ?_
    rw [if_neg (fun q => q.elim (fun z => c1 (z.trans xl_m.symm)) c2)]
    show Int32.ofInt 1 <<< _ = _
    rw [xl_n.2.1]
  · have c2 : I (10 * r + 2) p = nI h := Classical.not_not.mp c
    exact e44 _ (by rw [if_pos (Or.inr c2)]; exact xl_n.1)
theorem ct_X10_isKin : xm_Ct cI yX10_isKin (ws_ yX10_isKin cX10_isKin 5 (some .boolean)) 2 0 0 S_X10_isKin := xm_enter (rt := 1) (init := false) (by decide +kernel) rfl (fun h => by cases h) (Or.inr (Or.inl ⟨rfl, Or.inl rfl⟩)) (oX10_isKin) body_X10_isKin
theorem cv_X10_isKin {own : String} {cc : ByteArray} {fr pc idx : Nat} (hdg : decode cc pc = .ok (.invokevirtual idx, 3)) (hl : xm_ml own idx yX10_isKin) (hfr : 2 < fr) : xm_CallOK cI own cc fr pc (pc + 3) 3 0 0 (xm_this 7 S_X10_isKin) := xm_callV 7 cI_good (ct_X10_isKin) hdg hl q924 qs13 q144 q925 rfl rfl (by decide +kernel) hfr (by decide)
/-- the law lies at the root, and has the codes L -/
def c_lw (P : cP) (Z : cX) (I : tI) (L : List lC) : Prop := L.length ≤ 150 ∧ c_rep 152 (cW P Z I) P.2.2.2 L
theorem c_lw.eq {P : cP} {Z : cX} {I J : tI} {L : List lC} (h : c_lw P Z I L) (he : ∀ a, 1000 ≤ a → J a = I a) : c_lw P Z J L := ⟨h.1, c_rep_eq (w := cW P Z I) (w' := cW P Z J) (fun a ha _ => ⟨rfl, he a ha, rfl⟩) h.2⟩
theorem l_val_c : ∀ {d : Nat} {L : List lC}, l_tr d L → ∀ {f g : Nat → Int32}, (∀ k, k < 9 → f k = g k) → l_val L f = l_val L g
  | 0, _, h, _, _, _ => h.elim
  | d + 1, L, h, f, g, hk => by
    rcases h with ⟨v, rfl⟩ | ⟨j, hj, rfl⟩ | ⟨z, A, B, h1, h2, h3, h4, rfl⟩
    · rw [l_val_0, l_val_0]
    · rw [l_val_1, l_val_1, nI_clamp (by omega), hk j hj]
    · rw [l_val_z h1 h2 h3 h4, l_val_z h1 h2 h3 h4, l_val_c h3 hk, l_val_c h4 hk]
abbrev bX1_limpOf_0 : List xE := [(.iload_n 1, 1, 0, 0, 0), (.aload_n 0, 2, 0, 0, 0), (.getfield 72, 5, 0, 9, 0), (.if_icmp .ne 10, 8, 0, 15, 0), (.aload_n 0, 9, 0, 0, 0), (.getfield 114, 12, 0, 10, 0), (.goto 12, 15, 0, 24, 0)]
abbrev bX1_limpOf_15 : List xE := [(.aload_n 0, 16, 0, 0, 0), (.getfield 31, 19, 0, 0, 1), (.getfield 117, 22, 1, 0, 1), (.iload_n 1, 23, 0, 0, 0), (.iaload, 24, 0, 0, 0)]
abbrev bX1_limpOf_24 : List xE := [(.ireturn, 25, 0, 0, 0)]
abbrev kX1_limpOf : List (Nat × List xE) := [(0, bX1_limpOf_0), (15, bX1_limpOf_15), (24, bX1_limpOf_24)]
abbrev lX1_limpOf : List (Nat × Nat × Nat × xS) := []
theorem oX1_limpOf_0  : xm_okb cI RX1 cX1_limpOf false 1 lX1_limpOf bX1_limpOf_0 0 := xo_0 dX1_limpOf_0 rfl trivial (xo_0 dX1_limpOf_1 rfl trivial (xo_0 dX1_limpOf_2 rfl (xm_fg_of (Or.inl q728) (by decide) rfl (by decide) rfl rfl (Or.inl rfl) rfl) (xo_0 dX1_limpOf_5 rfl rfl (xo_0 dX1_limpOf_8 rfl trivial (xo_0 dX1_limpOf_9 rfl (xm_fg_of (Or.inl q729) (by decide) rfl (by decide) rfl rfl (Or.inl rfl) rfl) (xo_0 dX1_limpOf_12 rfl rfl (xo_n)))))))
theorem oX1_limpOf_15  : xm_okb cI RX1 cX1_limpOf false 1 lX1_limpOf bX1_limpOf_15 15 := xo_0 dX1_limpOf_15 rfl trivial (xo_1 dX1_limpOf_16 rfl (xm_fg_of (Or.inl q716) (by decide) rfl (by decide) rfl rfl (Or.inl rfl) rfl) (xo_1 dX1_limpOf_19 rfl (xm_fg_of (Or.inr ⟨_, q516⟩) (by decide) rfl (by decide) rfl rfl (Or.inl rfl) rfl) (xo_0 dX1_limpOf_22 rfl trivial (xo_0 dX1_limpOf_23 rfl trivial (xo_n)))))
theorem oX1_limpOf_24  : xm_okb cI RX1 cX1_limpOf false 1 lX1_limpOf bX1_limpOf_24 24 := xo_0 dX1_limpOf_24 rfl trivial (xo_n)
theorem oX1_limpOf  : ∀ q ∈ kX1_limpOf, xm_okb cI RX1 cX1_limpOf false 1 lX1_limpOf q.2 q.1 := by
  intro q hq
  simp only [List.mem_cons, List.not_mem_nil, or_false] at hq
  rcases hq with rfl | rfl | rfl
  · exact oX1_limpOf_0  
  · exact oX1_limpOf_15  
  · exact oX1_limpOf_24  
def S_X1_limpOf : xS := cU fun as P X I Q QX => ∃ h, as = [.ref 0, .int (nI h)] ∧ h < 9 ∧ Q (some (.int (c_limp I h))) I
theorem body_X1_limpOf : xm_Body 2 0 0 0 [] lX1_limpOf kX1_limpOf S_X1_limpOf := by
  intro X avs w Q QX hX0 hS
  have hG := xm_go [] hX0
  have hX := xm_go [] hX0
  clear hX0
  obtain ⟨P, Z, I, rfl, h, rfl, hh, hQ⟩ := hS
  refine ⟨rfl, ?_⟩
  repeat' (first
    | ((with_reducible refine @And.intro (vp_in _ _) _ ?_ ?_); (· (first | with_reducible assumption | ((with_reducible refine t_vin ?_); decide) | ((with_reducible refine vp_in_nI ?_ ?_) <;> first | omega | decide) | (simp (disch := omega) only [xl_n, xl_m, nI_dec, nI_sb, nI_add, pk_mul]; (with_reducible refine vp_in_nI ?_ ?_) <;> first | omega | decide))); (conv => whnf))
    | (refine And.intro (by first | with_reducible assumption | exact (show cL _ _ = _ from rfl) | decide) ?_; (conv => whnf))
    | ((with_reducible refine @And.intro (_ = _) _ ?_ ?_); (· rfl); (conv => whnf))
    | ((with_reducible refine @And.intro (@LE.le Nat _ _ _) _ ?_ ?_); (· (first | exact Nat.zero_le _ | exact Nat.le_of_ble_eq_true rfl | omega)); (conv => whnf))
    | ((with_reducible refine @And.intro (@LT.lt Nat _ _ _) _ ?_ ?_); (· omega); (conv => whnf))
    | ((with_reducible refine @And.intro (∃ _, _ = _) _ ?_ ?_); (· exact ⟨_, rfl⟩); (conv => whnf))
    | ((with_reducible refine @And.intro (_ ∨ _) _ ?_ ?_); (· (first | exact Or.inl rfl | exact Or.inr rfl | exact t_b01 _ | assumption)); (conv => whnf))
    | ((with_reducible refine @And.intro (¬ (_ = _)) _ ?_ ?_); (· first | assumption | (with_reducible assumption)); (conv => whnf))
    | (refine hX _ _ _ _ _ _ ?_; (conv => whnf); fail_if_success show False)
    | (rw [c_si]; (conv => whnf))
    | (refine ⟨_, rfl, ?_⟩; (conv => whnf))
    | (refine ⟨_, _, rfl, ?_⟩; (conv => whnf))
    | (refine ⟨_, _, _, rfl, ?_⟩; (conv => whnf))
    | (refine ⟨_, _, _, _, rfl, ?_⟩; (conv => whnf))
    | (refine And.intro (fun c => ?_) (fun c => ?_) <;> (first | (exact absurd c (by decide +kernel)) | (conv => whnf)))
    | fail)
  all_goals (
    refine t_q hQ ?_
    clear hX hG hQ)
  all_goals simp (disch := omega) only [xl_n, xl_m, nI_dec, nI_sb, xl_0, xl_1, cW_i, Nat.add_zero, Nat.reduceAdd, Nat.reduceMul, t_bn0, t_bn1, Classical.not_not, t_lt, nI_add, nI_1, pk_mul, nI_clamp, c_si, nI_eq, nI_leI, nM_ne, nM_ne] at *
  all_goals simp_all [c_limp]
theorem ct_X1_limpOf : xm_Ct cI yX1_limpOf (ws_ yX1_limpOf cX1_limpOf 2 (some .int)) 1 0 0 S_X1_limpOf := xm_enter (rt := 0) (init := false) (by decide +kernel) rfl (fun h => by cases h) (Or.inl ⟨rfl, rfl⟩) (oX1_limpOf) body_X1_limpOf
theorem cv_X1_limpOf {own : String} {cc : ByteArray} {fr pc idx : Nat} (hdg : decode cc pc = .ok (.invokevirtual idx, 3)) (hl : xm_ml own idx yX1_limpOf) (hfr : 1 < fr) : xm_CallOK cI own cc fr pc (pc + 3) 2 0 0 (xm_this 0 S_X1_limpOf) := xm_callV 0 cI_good (ct_X1_limpOf) hdg hl q920 qs12 q116 q921 rfl rfl (by decide +kernel) hfr (by decide)
/-- only the facts -/
def c_fa (I J : tI) : Prop := ∀ b, b ≠ 2 → J b = I b
theorem c_fa.rf {I : tI} : c_fa I I := fun _ _ => rfl
theorem c_fa.tr {I J K : tI} (h : c_fa I J) (h2 : c_fa J K) : c_fa I K := fun b hb => (h2 b hb).trans (h b hb)
theorem c_fa.u {I : tI} {k : Nat} {v : Int32} : c_fa I (xm_u2 I 2 k v) := fun b hb => funext fun j => xm_u2_ne hb j
theorem cA_eq {I J : tI} {r : Nat} (h : ∀ k, k < 6 → J (10 * r + k) = I (10 * r + k)) (h2 : J r 6 = I r 6) : cA J r = cA I r := by
  have h0 : J (10 * r) = I (10 * r) := h 0 (by decide)
  unfold cA
  rw [h0, h 1 (by decide), h 2 (by decide), h 3 (by decide), h 4 (by decide), h 5 (by decide), h2]
theorem cK_eq {I J : tI} {L : List lC} (h1 : J 1 = I 1) (h2 : ∀ b, 30 ≤ b → b < 40 → J b = I b) (h9 : J 0 9 = I 0 9) (h10 : J 0 10 = I 0 10) : cK J L = cK I L := by
  unfold cK c_h c_p c_limp
  rw [h1, h9, h10, h2 30 (by decide) (by decide), h2 31 (by decide) (by decide), h2 32 (by decide) (by decide), h2 35 (by decide) (by decide), h2 36 (by decide) (by decide), h2 39 (by decide) (by decide)]
theorem c_tr.ne {P : cP} {r : Nat} (h : c_tr P r) : 5 ≤ r ∧ r < 13 := by
  have := c_tr_lt h
  omega
theorem c_fa.A {I J : tI} {P : cP} {r : Nat} (h : c_fa I J) (hr : c_tr P r) : cA J r = cA I r := cA_eq (fun k hk => h _ (by have := hr.ne; omega)) (by rw [h r (by have := hr.ne; omega)])
theorem c_fa.K {I J : tI} {L : List lC} (h : c_fa I J) : cK J L = cK I L := cK_eq (h 1 (by decide)) (fun b h1 _ => h b (by omega)) (by rw [h 0 (by decide)]) (by rw [h 0 (by decide)])
theorem c_fa.ok {I J : tI} (h : c_fa I J) (hk : c_ok I) : c_ok J := by
  unfold c_ok c_h c_p at *
  rw [h 1 (by decide)]
  exact hk
theorem c_fa.h {I J : tI} (h : c_fa I J) : c_h J = c_h I ∧ c_p J = c_p I := by
  unfold c_h c_p
  rw [h 1 (by decide)]
  exact ⟨rfl, rfl⟩
theorem c_fa.lw {P : cP} {Z : cX} {I J : tI} {L : List lC} (h : c_fa I J) (hl : c_lw P Z I L) : c_lw P Z J L := hl.eq fun a ha => h a (by omega)
abbrev bX10_score_0 : List xE := [(.aload_n 0, 1, 0, 0, 0), (.getfield 3, 4, 7, 7, 1), (.getfield 82, 7, 0, 2, 1), (.iconst 0, 8, 0, 0, 0), (.aload_n 0, 9, 0, 0, 0), (.getfield 3, 12, 7, 7, 1), (.iload_n 2, 13, 0, 0, 0), (.invokevirtual 85, 16, 0, 0, 9), (.iastore, 17, 0, 0, 0)]
abbrev bX10_score_17 : List xE := [(.aload_n 0, 18, 0, 0, 0), (.getfield 3, 21, 7, 7, 1), (.getfield 82, 24, 0, 2, 1), (.iconst 1, 25, 0, 0, 0), (.aload_n 0, 26, 0, 0, 0), (.getfield 3, 29, 7, 7, 1), (.getfield 38, 32, 0, 0, 1), (.getfield 88, 35, 1, 5, 1), (.iload_n 1, 36, 0, 0, 0), (.iaload, 37, 0, 0, 0), (.iastore, 38, 0, 0, 0)]
abbrev bX10_score_38 : List xE := [(.aload_n 0, 39, 0, 0, 0), (.getfield 3, 42, 7, 7, 1), (.getfield 82, 45, 0, 2, 1), (.iconst 2, 46, 0, 0, 0), (.aload_n 0, 47, 0, 0, 0), (.getfield 34, 50, 7, 6, 0), (.aload_n 0, 51, 0, 0, 0), (.getfield 3, 54, 7, 7, 1), (.getfield 38, 57, 0, 0, 1), (.getfield 47, 60, 1, 1, 1), (.iload_n 2, 61, 0, 0, 0), (.iaload, 62, 0, 0, 0), (.isub, 63, 0, 0, 0), (.iastore, 64, 0, 0, 0)]
abbrev bX10_score_64 : List xE := [(.aload_n 0, 65, 0, 0, 0), (.getfield 3, 68, 7, 7, 1), (.getfield 82, 71, 0, 2, 1), (.iconst 3, 72, 0, 0, 0), (.aload_n 0, 73, 0, 0, 0), (.iload_n 2, 74, 0, 0, 0), (.invokevirtual 91, 77, 0, 1, 9), (.invokestatic 70, 80, 0, 2, 9), (.iastore, 81, 0, 0, 0)]
abbrev bX10_score_81 : List xE := [(.aload_n 0, 82, 0, 0, 0), (.getfield 3, 85, 7, 7, 1), (.getfield 82, 88, 0, 2, 1), (.iconst 4, 89, 0, 0, 0), (.aload_n 0, 90, 0, 0, 0), (.getfield 25, 93, 7, 3, 1), (.iload_n 1, 94, 0, 0, 0), (.iaload, 95, 0, 0, 0), (.iastore, 96, 0, 0, 0)]
abbrev bX10_score_96 : List xE := [(.aload_n 0, 97, 0, 0, 0), (.getfield 3, 100, 7, 7, 1), (.getfield 82, 103, 0, 2, 1), (.iconst 5, 104, 0, 0, 0), (.aload_n 0, 105, 0, 0, 0), (.getfield 34, 108, 7, 6, 0), (.iastore, 109, 0, 0, 0)]
abbrev bX10_score_109 : List xE := [(.aload_n 0, 110, 0, 0, 0), (.getfield 3, 113, 7, 7, 1), (.getfield 82, 116, 0, 2, 1), (.bipush 6, 118, 0, 0, 0), (.iload_n 2, 119, 0, 0, 0), (.iastore, 120, 0, 0, 0)]
abbrev bX10_score_120 : List xE := [(.aload_n 0, 121, 0, 0, 0), (.getfield 3, 124, 7, 7, 1), (.getfield 82, 127, 0, 2, 1), (.bipush 7, 129, 0, 0, 0), (.iload_n 1, 130, 0, 0, 0), (.iastore, 131, 0, 0, 0)]
abbrev bX10_score_131 : List xE := [(.aload_n 0, 132, 0, 0, 0), (.getfield 3, 135, 7, 7, 1), (.getfield 82, 138, 0, 2, 1), (.bipush 8, 140, 0, 0, 0), (.aload_n 0, 141, 0, 0, 0), (.iload_n 1, 142, 0, 0, 0), (.iload_n 2, 143, 0, 0, 0), (.invokevirtual 94, 146, 0, 3, 9), (.ifCond .eq 7, 149, 0, 153, 0), (.iconst 1, 150, 0, 0, 0), (.goto 4, 153, 0, 154, 0)]
abbrev bX10_score_153 : List xE := [(.iconst 0, 154, 0, 0, 0)]
abbrev bX10_score_154 : List xE := [(.iastore, 155, 0, 0, 0)]
abbrev bX10_score_155 : List xE := [(.aload_n 0, 156, 0, 0, 0), (.getfield 3, 159, 7, 7, 1), (.getfield 97, 162, 0, 1, 1), (.aload_n 0, 163, 0, 0, 0), (.getfield 3, 166, 7, 7, 1), (.getfield 82, 169, 0, 2, 1), (.invokevirtual 101, 172, 0, 4, 9), (.ireturn, 173, 0, 0, 0)]
abbrev kX10_score : List (Nat × List xE) := [(0, bX10_score_0), (17, bX10_score_17), (38, bX10_score_38), (64, bX10_score_64), (81, bX10_score_81), (96, bX10_score_96), (109, bX10_score_109), (120, bX10_score_120), (131, bX10_score_131), (153, bX10_score_153), (154, bX10_score_154), (155, bX10_score_155)]
abbrev lX10_score : List (Nat × Nat × Nat × xS) := [(2, 0, 0, xm_this 0 S_X1_limpOf), (2, 0, 0, xm_this 7 S_X10_workedBy), (1, 0, 0, S_J16_bitCount), (3, 0, 0, xm_this 7 S_X10_isKin), (2, 0, 0, (vS_of 152))]
theorem oX10_score_0  : xm_okb cI RX10 cX10_score false 160 lX10_score bX10_score_0 0 := xo_0 dX10_score_0 rfl trivial (xo_1 dX10_score_1 rfl (xm_fg_of (Or.inl q676) (by decide) rfl (by decide) rfl rfl (Or.inl rfl) rfl) (xo_1 dX10_score_4 rfl (xm_fg_of (Or.inr ⟨_, q721⟩) (by decide) rfl (by decide) rfl rfl (Or.inl rfl) rfl) (xo_0 dX10_score_7 rfl trivial (xo_0 dX10_score_8 rfl trivial (xo_1 dX10_score_9 rfl (xm_fg_of (Or.inl q676) (by decide) rfl (by decide) rfl rfl (Or.inl rfl) rfl) (xo_0 dX10_score_12 rfl trivial (xo_c rfl (cv_X1_limpOf dX10_score_13 (Or.inr ⟨_, q918⟩) (by decide)) (xo_0 dX10_score_16 rfl trivial (xo_n)))))))))
theorem oX10_score_17  : xm_okb cI RX10 cX10_score false 160 lX10_score bX10_score_17 17 := xo_0 dX10_score_17 rfl trivial (xo_1 dX10_score_18 rfl (xm_fg_of (Or.inl q676) (by decide) rfl (by decide) rfl rfl (Or.inl rfl) rfl) (xo_1 dX10_score_21 rfl (xm_fg_of (Or.inr ⟨_, q721⟩) (by decide) rfl (by decide) rfl rfl (Or.inl rfl) rfl) (xo_0 dX10_score_24 rfl trivial (xo_0 dX10_score_25 rfl trivial (xo_1 dX10_score_26 rfl (xm_fg_of (Or.inl q676) (by decide) rfl (by decide) rfl rfl (Or.inl rfl) rfl) (xo_1 dX10_score_29 rfl (xm_fg_of (Or.inr ⟨_, q717⟩) (by decide) rfl (by decide) rfl rfl (Or.inl rfl) rfl) (xo_1 dX10_score_32 rfl (xm_fg_of (Or.inr ⟨_, q534⟩) (by decide) rfl (by decide) rfl rfl (Or.inl rfl) rfl) (xo_0 dX10_score_35 rfl trivial (xo_0 dX10_score_36 rfl trivial (xo_0 dX10_score_37 rfl trivial (xo_n)))))))))))
theorem oX10_score_38  : xm_okb cI RX10 cX10_score false 160 lX10_score bX10_score_38 38 := xo_0 dX10_score_38 rfl trivial (xo_1 dX10_score_39 rfl (xm_fg_of (Or.inl q676) (by decide) rfl (by decide) rfl rfl (Or.inl rfl) rfl) (xo_1 dX10_score_42 rfl (xm_fg_of (Or.inr ⟨_, q721⟩) (by decide) rfl (by decide) rfl rfl (Or.inl rfl) rfl) (xo_0 dX10_score_45 rfl trivial (xo_0 dX10_score_46 rfl trivial (xo_0 dX10_score_47 rfl (xm_fg_of (Or.inl q674) (by decide) rfl (by decide) rfl rfl (Or.inl rfl) rfl) (xo_0 dX10_score_50 rfl trivial (xo_1 dX10_score_51 rfl (xm_fg_of (Or.inl q676) (by decide) rfl (by decide) rfl rfl (Or.inl rfl) rfl) (xo_1 dX10_score_54 rfl (xm_fg_of (Or.inr ⟨_, q717⟩) (by decide) rfl (by decide) rfl rfl (Or.inl rfl) rfl) (xo_1 dX10_score_57 rfl (xm_fg_of (Or.inr ⟨_, q519⟩) (by decide) rfl (by decide) rfl rfl (Or.inl rfl) rfl) (xo_0 dX10_score_60 rfl trivial (xo_0 dX10_score_61 rfl trivial (xo_0 dX10_score_62 rfl trivial (xo_0 dX10_score_63 rfl trivial (xo_n))))))))))))))
theorem oX10_score_64  : xm_okb cI RX10 cX10_score false 160 lX10_score bX10_score_64 64 := xo_0 dX10_score_64 rfl trivial (xo_1 dX10_score_65 rfl (xm_fg_of (Or.inl q676) (by decide) rfl (by decide) rfl rfl (Or.inl rfl) rfl) (xo_1 dX10_score_68 rfl (xm_fg_of (Or.inr ⟨_, q721⟩) (by decide) rfl (by decide) rfl rfl (Or.inl rfl) rfl) (xo_0 dX10_score_71 rfl trivial (xo_0 dX10_score_72 rfl trivial (xo_0 dX10_score_73 rfl trivial (xo_c rfl (cv_X10_workedBy dX10_score_74 (Or.inl q888) (by decide)) (xo_c rfl (cv_J16_bitCount dX10_score_77 (Or.inl q896) (by decide)) (xo_0 dX10_score_80 rfl trivial (xo_n)))))))))
theorem oX10_score_81  : xm_okb cI RX10 cX10_score false 160 lX10_score bX10_score_81 81 := xo_0 dX10_score_81 rfl trivial (xo_1 dX10_score_82 rfl (xm_fg_of (Or.inl q676) (by decide) rfl (by decide) rfl rfl (Or.inl rfl) rfl) (xo_1 dX10_score_85 rfl (xm_fg_of (Or.inr ⟨_, q721⟩) (by decide) rfl (by decide) rfl rfl (Or.inl rfl) rfl) (xo_0 dX10_score_88 rfl trivial (xo_0 dX10_score_89 rfl trivial (xo_1 dX10_score_90 rfl (xm_fg_of (Or.inl q668) (by decide) rfl (by decide) rfl rfl (Or.inl rfl) rfl) (xo_0 dX10_score_93 rfl trivial (xo_0 dX10_score_94 rfl trivial (xo_0 dX10_score_95 rfl trivial (xo_n)))))))))
theorem oX10_score_96  : xm_okb cI RX10 cX10_score false 160 lX10_score bX10_score_96 96 := xo_0 dX10_score_96 rfl trivial (xo_1 dX10_score_97 rfl (xm_fg_of (Or.inl q676) (by decide) rfl (by decide) rfl rfl (Or.inl rfl) rfl) (xo_1 dX10_score_100 rfl (xm_fg_of (Or.inr ⟨_, q721⟩) (by decide) rfl (by decide) rfl rfl (Or.inl rfl) rfl) (xo_0 dX10_score_103 rfl trivial (xo_0 dX10_score_104 rfl trivial (xo_0 dX10_score_105 rfl (xm_fg_of (Or.inl q674) (by decide) rfl (by decide) rfl rfl (Or.inl rfl) rfl) (xo_0 dX10_score_108 rfl trivial (xo_n)))))))
theorem oX10_score_109  : xm_okb cI RX10 cX10_score false 160 lX10_score bX10_score_109 109 := xo_0 dX10_score_109 rfl trivial (xo_1 dX10_score_110 rfl (xm_fg_of (Or.inl q676) (by decide) rfl (by decide) rfl rfl (Or.inl rfl) rfl) (xo_1 dX10_score_113 rfl (xm_fg_of (Or.inr ⟨_, q721⟩) (by decide) rfl (by decide) rfl rfl (Or.inl rfl) rfl) (xo_0 dX10_score_116 rfl (xo_bipush (by decide +kernel)) (xo_0 dX10_score_118 rfl trivial (xo_0 dX10_score_119 rfl trivial (xo_n))))))
theorem oX10_score_120  : xm_okb cI RX10 cX10_score false 160 lX10_score bX10_score_120 120 := xo_0 dX10_score_120 rfl trivial (xo_1 dX10_score_121 rfl (xm_fg_of (Or.inl q676) (by decide) rfl (by decide) rfl rfl (Or.inl rfl) rfl) (xo_1 dX10_score_124 rfl (xm_fg_of (Or.inr ⟨_, q721⟩) (by decide) rfl (by decide) rfl rfl (Or.inl rfl) rfl) (xo_0 dX10_score_127 rfl (xo_bipush (by decide +kernel)) (xo_0 dX10_score_129 rfl trivial (xo_0 dX10_score_130 rfl trivial (xo_n))))))
theorem oX10_score_131  : xm_okb cI RX10 cX10_score false 160 lX10_score bX10_score_131 131 := xo_0 dX10_score_131 rfl trivial (xo_1 dX10_score_132 rfl (xm_fg_of (Or.inl q676) (by decide) rfl (by decide) rfl rfl (Or.inl rfl) rfl) (xo_1 dX10_score_135 rfl (xm_fg_of (Or.inr ⟨_, q721⟩) (by decide) rfl (by decide) rfl rfl (Or.inl rfl) rfl) (xo_0 dX10_score_138 rfl (xo_bipush (by decide +kernel)) (xo_0 dX10_score_140 rfl trivial (xo_0 dX10_score_141 rfl trivial (xo_0 dX10_score_142 rfl trivial (xo_c rfl (cv_X10_isKin dX10_score_143 (Or.inl q922) (by decide)) (xo_0 dX10_score_146 rfl rfl (xo_0 dX10_score_149 rfl trivial (xo_0 dX10_score_150 rfl rfl (xo_n)))))))))))
theorem oX10_score_153  : xm_okb cI RX10 cX10_score false 160 lX10_score bX10_score_153 153 := xo_0 dX10_score_153 rfl trivial (xo_n)
theorem oX10_score_154  : xm_okb cI RX10 cX10_score false 160 lX10_score bX10_score_154 154 := xo_0 dX10_score_154 rfl trivial (xo_n)
theorem oX10_score_155  : xm_okb cI RX10 cX10_score false 160 lX10_score bX10_score_155 155 := xo_0 dX10_score_155 rfl trivial (xo_1 dX10_score_156 rfl (xm_fg_of (Or.inl q676) (by decide) rfl (by decide) rfl rfl (Or.inl rfl) rfl) (xo_1 dX10_score_159 rfl (xm_fg_of (Or.inr ⟨_, q719⟩) (by decide) rfl (by decide) rfl rfl (Or.inl rfl) rfl) (xo_0 dX10_score_162 rfl trivial (xo_1 dX10_score_163 rfl (xm_fg_of (Or.inl q676) (by decide) rfl (by decide) rfl rfl (Or.inl rfl) rfl) (xo_1 dX10_score_166 rfl (xm_fg_of (Or.inr ⟨_, q721⟩) (by decide) rfl (by decide) rfl rfl (Or.inl rfl) rfl) (xo_c rfl ((cv_of 152 (ct_X4_of 152) q926 (by decide)) dX10_score_169) (xo_0 dX10_score_172 rfl trivial (xo_n))))))))
theorem oX10_score  : ∀ q ∈ kX10_score, xm_okb cI RX10 cX10_score false 160 lX10_score q.2 q.1 := by
  intro q hq
  simp only [List.mem_cons, List.not_mem_nil, or_false] at hq
  rcases hq with rfl | rfl | rfl | rfl | rfl | rfl | rfl | rfl | rfl | rfl | rfl | rfl
  · exact oX10_score_0  
  · exact oX10_score_17  
  · exact oX10_score_38  
  · exact oX10_score_64  
  · exact oX10_score_81  
  · exact oX10_score_96  
  · exact oX10_score_109  
  · exact oX10_score_120  
  · exact oX10_score_131  
  · exact oX10_score_153  
  · exact oX10_score_154  
  · exact oX10_score_155  
def S_X10_score : xS := cU fun as P X I Q QX => ∃ r p h L, as = [.ref r, .int (nI p), .int (nI h)] ∧ c_tr P r ∧ c_ok I ∧ p < c_p I ∧ h < c_h I ∧ c_lw P X I L ∧ g_w (cA I r) ∧ ∀ J, c_fa I J → Q (some (.int (g_score (cK I L) (cA I r) p h))) J
theorem body_X10_score : xm_Body 3 0 0 0 [] lX10_score kX10_score S_X10_score := by
  intro X avs w Q QX hX0 hS
  have hG := xm_go [] hX0
  have hX := xm_go [17, 38, 64, 81, 96, 109, 120, 131, 155] hX0
  clear hX0
  obtain ⟨P, Z, I, rfl, r, p, h, L, rfl, hr, hok, hp, hh, hlw, hw, hQ⟩ := hS
  obtain ⟨hn, h9, hm, h8⟩ := id hok
  have st : ∀ {J : tI} {k : Nat} {v : Int32}, c_fa I J → (∀ j, j < k → J 2 j = g_facts (cK I L) (cA I r) p h j) → v = g_facts (cK I L) (cA I r) p h k → c_fa I (xm_u2 J 2 k v) ∧ ∀ j, j < k + 1 → xm_u2 J 2 k v 2 j = g_facts (cK I L) (cA I r) p h j := by
    intro J k v hJ hf hv
    refine ⟨hJ.tr c_fa.u, fun j hj => ?_⟩
    rw [xm_u2_at]
    by_cases q : j = k
    · rw [if_pos q, q]
      exact hv
    · rw [if_neg q]
      exact hf j (by omega)
  have x155 : ∀ J, c_fa I J → (∀ j, j < 9 → J 2 j = g_facts (cK I L) (cA I r) p h j) → X 155 [some (.ref r), some (.int (nI p)), some (.int (nI h))] [] (cW P Z J) 0 0 := by
    intro J hJ hf
    have hl := (hJ.lw hlw).2
    have e : l_val L (fun k => J 2 k) = g_score (cK I L) (cA I r) p h := l_val_c (c_rep_tr hl) hf
    have fin := hQ J hJ
    rw [← e] at fin
    refine hG _ _ _ _ _ _ ?_
    (conv => whnf)
    repeat' (first
      | ((with_reducible refine @And.intro (vp_in _ _) _ ?_ ?_); (· (first | with_reducible assumption | ((with_reducible refine t_vin ?_); decide) | ((with_reducible refine vp_in_nI ?_ ?_) <;> first | omega | decide) | (simp (disch := omega) only [xl_n, xl_m, nI_dec, nI_sb, nI_add, pk_mul]; (with_reducible refine vp_in_nI ?_ ?_) <;> first | omega | decide))); (conv => whnf))
      | (refine And.intro (by first | with_reducible assumption | exact (show cL _ _ = _ from rfl) | decide) ?_; (conv => whnf))
      | ((with_reducible refine @And.intro (_ = _) _ ?_ ?_); (· rfl); (conv => whnf))
      | ((with_reducible refine @And.intro (@LE.le Nat _ _ _) _ ?_ ?_); (· (first | exact Nat.zero_le _ | exact Nat.le_of_ble_eq_true rfl | omega)); (conv => whnf))
      | ((with_reducible refine @And.intro (@LT.lt Nat _ _ _) _ ?_ ?_); (· omega); (conv => whnf))
      | ((with_reducible refine @And.intro (∃ _, _ = _) _ ?_ ?_); (· exact ⟨_, rfl⟩); (conv => whnf))
      | ((with_reducible refine @And.intro (_ ∨ _) _ ?_ ?_); (· (first | exact Or.inl rfl | exact Or.inr rfl | exact t_b01 _ | assumption)); (conv => whnf))
      | ((with_reducible refine @And.intro (¬ (_ = _)) _ ?_ ?_); (· first | assumption | (with_reducible assumption)); (conv => whnf))
      | (refine hX _ _ _ _ _ _ ?_; (conv => whnf); fail_if_success show False)
      | (rw [c_si]; (conv => whnf))
      | (refine ⟨_, rfl, ?_⟩; (conv => whnf))
      | (refine ⟨_, _, rfl, ?_⟩; (conv => whnf))
      | (refine ⟨_, _, _, rfl, ?_⟩; (conv => whnf))
      | (refine ⟨_, _, _, _, rfl, ?_⟩; (conv => whnf))
      | (refine ⟨_,_,_,rfl,hl,rfl,?_⟩; (conv => whnf))
      | (rw [c_tl hr]; (conv => whnf))
      | (rw [c_t7 hr]; (conv => whnf))
      | (rw [c_tf hr (by decide)]; (conv => whnf))
      | (rw [c_t0 hr]; (conv => whnf))
      | (rw [c_t1 hr]; (conv => whnf))
      | (rw [c_t2 hr]; (conv => whnf))
      | (rw [c_t3 hr]; (conv => whnf))
      | (rw [c_t4 hr]; (conv => whnf))
      | (rw [c_t5 hr]; (conv => whnf))
      | (refine And.intro ⟨_, c_tl hr⟩ ?_; (conv => whnf))
      | (refine And.intro (fun c => ?_) (fun c => ?_) <;> (first | (exact absurd c (by decide +kernel)) | (conv => whnf)))
      | fail)
    exact fin
  have wk : ∀ {J : tI}, c_fa I J → t_or (c_p J) (fun p => t_has (gw (cA J r) p) h) = g_work (cK I L) (cA I r) h := fun hJ => by rw [hJ.h.2, hJ.A hr]; rfl
  have x131 : ∀ J, c_fa I J → (∀ j, j < 8 → J 2 j = g_facts (cK I L) (cA I r) p h j) → X 131 [some (.ref r), some (.int (nI p)), some (.int (nI h))] [] (cW P Z J) 0 0 := by
    intro J hJ hf
    have nx := x155
    clear x155
    refine hG _ _ _ _ _ _ ?_
    (conv => whnf)
    have hokJ := hJ.ok hok
    have hwJ : g_w (cA J r) := by rw [hJ.A hr]; exact hw
    have hp8 : p < 8 := by omega
    have hh9 : h < 9 := by omega
    repeat' (first
      | ((with_reducible refine @And.intro (vp_in _ _) _ ?_ ?_); (· (first | with_reducible assumption | ((with_reducible refine t_vin ?_); decide) | ((with_reducible refine vp_in_nI ?_ ?_) <;> first | omega | decide) | (simp (disch := omega) only [xl_n, xl_m, nI_dec, nI_sb, nI_add, pk_mul]; (with_reducible refine vp_in_nI ?_ ?_) <;> first | omega | decide))); (conv => whnf))
      | (refine And.intro (by first | with_reducible assumption | exact (show cL _ _ = _ from rfl) | decide) ?_; (conv => whnf))
      | ((with_reducible refine @And.intro (_ = _) _ ?_ ?_); (· rfl); (conv => whnf))
      | ((with_reducible refine @And.intro (@LE.le Nat _ _ _) _ ?_ ?_); (· (first | exact Nat.zero_le _ | exact Nat.le_of_ble_eq_true rfl | omega)); (conv => whnf))
      | ((with_reducible refine @And.intro (@LT.lt Nat _ _ _) _ ?_ ?_); (· omega); (conv => whnf))
      | ((with_reducible refine @And.intro (∃ _, _ = _) _ ?_ ?_); (· exact ⟨_, rfl⟩); (conv => whnf))
      | ((with_reducible refine @And.intro (_ ∨ _) _ ?_ ?_); (· (first | exact Or.inl rfl | exact Or.inr rfl | exact t_b01 _ | assumption)); (conv => whnf))
      | ((with_reducible refine @And.intro (¬ (_ = _)) _ ?_ ?_); (· first | assumption | (with_reducible assumption)); (conv => whnf))
      | (refine hX _ _ _ _ _ _ ?_; (conv => whnf); fail_if_success show False)
      | (rw [c_si]; simp (disch := omega) only [xl_n, xl_m, nI_dec, nI_sb, xl_0, xl_1, cW_i, Nat.add_zero, Nat.reduceAdd, Nat.reduceMul, t_bn0, t_bn1, Classical.not_not, t_lt, nI_add, nI_1, pk_mul, nI_clamp, c_si, nI_eq, nI_leI, nM_ne, nM_ne, xm_u2_ne, xm_u2_at, reduceIte, Nat.reduceEqDiff]; (conv => whnf))
      | (refine ⟨_, rfl, ?_⟩; (conv => whnf))
      | (refine ⟨_, _, rfl, ?_⟩; (conv => whnf))
      | (refine ⟨_, _, _, rfl, ?_⟩; (conv => whnf))
      | (refine ⟨_, _, _, _, rfl, ?_⟩; (conv => whnf))
      | (refine ⟨_,_,_,L,rfl,hr,hokJ,hp8,hh9,hwJ,?_⟩; (conv => whnf))
      | (rw [c_tl hr]; (conv => whnf))
      | (rw [c_t7 hr]; (conv => whnf))
      | (rw [c_tf hr (by decide)]; (conv => whnf))
      | (rw [c_t0 hr]; (conv => whnf))
      | (rw [c_t1 hr]; (conv => whnf))
      | (rw [c_t2 hr]; (conv => whnf))
      | (rw [c_t3 hr]; (conv => whnf))
      | (rw [c_t4 hr]; (conv => whnf))
      | (rw [c_t5 hr]; (conv => whnf))
      | (refine And.intro ⟨_, c_tl hr⟩ ?_; (conv => whnf))
      | (refine And.intro (fun c => ?_) (fun c => ?_) <;> (first | (exact absurd c (by decide +kernel)) | (conv => whnf)))
      | fail)
    all_goals rw [hJ.K, hJ.A hr] at c
    · refine nx _ (c_fa.tr hJ c_fa.u) (st hJ hf ?_).2
      show nI 0 = t_b (g_kin _ _ _ _)
      rw [(t_b0 _).mp c]
      rfl
    · refine nx _ (c_fa.tr hJ c_fa.u) (st hJ hf ?_).2
      show nI 1 = t_b (g_kin _ _ _ _)
      rw [p_bz c]
      rfl
  have x120 : ∀ J, c_fa I J → (∀ j, j < 7 → J 2 j = g_facts (cK I L) (cA I r) p h j) → X 120 [some (.ref r), some (.int (nI p)), some (.int (nI h))] [] (cW P Z J) 0 0 := by
    intro J hJ hf
    have nx := x131
    clear x131
    refine hG _ _ _ _ _ _ ?_
    (conv => whnf)
    have fin := nx _ (c_fa.tr hJ c_fa.u) (st (v := nI p) hJ hf rfl).2
    repeat' (first
      | ((with_reducible refine @And.intro (vp_in _ _) _ ?_ ?_); (· (first | with_reducible assumption | ((with_reducible refine t_vin ?_); decide) | ((with_reducible refine vp_in_nI ?_ ?_) <;> first | omega | decide) | (simp (disch := omega) only [xl_n, xl_m, nI_dec, nI_sb, nI_add, pk_mul]; (with_reducible refine vp_in_nI ?_ ?_) <;> first | omega | decide))); (conv => whnf))
      | (refine And.intro (by first | with_reducible assumption | exact (show cL _ _ = _ from rfl) | decide) ?_; (conv => whnf))
      | ((with_reducible refine @And.intro (_ = _) _ ?_ ?_); (· rfl); (conv => whnf))
      | ((with_reducible refine @And.intro (@LE.le Nat _ _ _) _ ?_ ?_); (· (first | exact Nat.zero_le _ | exact Nat.le_of_ble_eq_true rfl | omega)); (conv => whnf))
      | ((with_reducible refine @And.intro (@LT.lt Nat _ _ _) _ ?_ ?_); (· omega); (conv => whnf))
      | ((with_reducible refine @And.intro (∃ _, _ = _) _ ?_ ?_); (· exact ⟨_, rfl⟩); (conv => whnf))
      | ((with_reducible refine @And.intro (_ ∨ _) _ ?_ ?_); (· (first | exact Or.inl rfl | exact Or.inr rfl | exact t_b01 _ | assumption)); (conv => whnf))
      | ((with_reducible refine @And.intro (¬ (_ = _)) _ ?_ ?_); (· first | assumption | (with_reducible assumption)); (conv => whnf))
      | (refine hX _ _ _ _ _ _ ?_; (conv => whnf); fail_if_success show False)
      | (rw [c_si]; simp (disch := omega) only [xl_n, xl_m, nI_dec, nI_sb, xl_0, xl_1, cW_i, Nat.add_zero, Nat.reduceAdd, Nat.reduceMul, t_bn0, t_bn1, Classical.not_not, t_lt, nI_add, nI_1, pk_mul, nI_clamp, c_si, nI_eq, nI_leI, nM_ne, nM_ne, xm_u2_ne, xm_u2_at, reduceIte, Nat.reduceEqDiff]; (conv => whnf))
      | (refine ⟨_, rfl, ?_⟩; (conv => whnf))
      | (refine ⟨_, _, rfl, ?_⟩; (conv => whnf))
      | (refine ⟨_, _, _, rfl, ?_⟩; (conv => whnf))
      | (refine ⟨_, _, _, _, rfl, ?_⟩; (conv => whnf))
      | (rw [c_tl hr]; (conv => whnf))
      | (rw [c_t7 hr]; (conv => whnf))
      | (rw [c_tf hr (by decide)]; (conv => whnf))
      | (rw [c_t0 hr]; (conv => whnf))
      | (rw [c_t1 hr]; (conv => whnf))
      | (rw [c_t2 hr]; (conv => whnf))
      | (rw [c_t3 hr]; (conv => whnf))
      | (rw [c_t4 hr]; (conv => whnf))
      | (rw [c_t5 hr]; (conv => whnf))
      | (refine And.intro ⟨_, c_tl hr⟩ ?_; (conv => whnf))
      | (refine And.intro (fun c => ?_) (fun c => ?_) <;> (first | (exact absurd c (by decide +kernel)) | (conv => whnf)))
      | fail)
    exact fin
  have x109 : ∀ J, c_fa I J → (∀ j, j < 6 → J 2 j = g_facts (cK I L) (cA I r) p h j) → X 109 [some (.ref r), some (.int (nI p)), some (.int (nI h))] [] (cW P Z J) 0 0 := by
    intro J hJ hf
    have nx := x120
    clear x120
    refine hG _ _ _ _ _ _ ?_
    (conv => whnf)
    have fin := nx _ (c_fa.tr hJ c_fa.u) (st (v := nI h) hJ hf rfl).2
    repeat' (first
      | ((with_reducible refine @And.intro (vp_in _ _) _ ?_ ?_); (· (first | with_reducible assumption | ((with_reducible refine t_vin ?_); decide) | ((with_reducible refine vp_in_nI ?_ ?_) <;> first | omega | decide) | (simp (disch := omega) only [xl_n, xl_m, nI_dec, nI_sb, nI_add, pk_mul]; (with_reducible refine vp_in_nI ?_ ?_) <;> first | omega | decide))); (conv => whnf))
      | (refine And.intro (by first | with_reducible assumption | exact (show cL _ _ = _ from rfl) | decide) ?_; (conv => whnf))
      | ((with_reducible refine @And.intro (_ = _) _ ?_ ?_); (· rfl); (conv => whnf))
      | ((with_reducible refine @And.intro (@LE.le Nat _ _ _) _ ?_ ?_); (· (first | exact Nat.zero_le _ | exact Nat.le_of_ble_eq_true rfl | omega)); (conv => whnf))
      | ((with_reducible refine @And.intro (@LT.lt Nat _ _ _) _ ?_ ?_); (· omega); (conv => whnf))
      | ((with_reducible refine @And.intro (∃ _, _ = _) _ ?_ ?_); (· exact ⟨_, rfl⟩); (conv => whnf))
      | ((with_reducible refine @And.intro (_ ∨ _) _ ?_ ?_); (· (first | exact Or.inl rfl | exact Or.inr rfl | exact t_b01 _ | assumption)); (conv => whnf))
      | ((with_reducible refine @And.intro (¬ (_ = _)) _ ?_ ?_); (· first | assumption | (with_reducible assumption)); (conv => whnf))
      | (refine hX _ _ _ _ _ _ ?_; (conv => whnf); fail_if_success show False)
      | (rw [c_si]; simp (disch := omega) only [xl_n, xl_m, nI_dec, nI_sb, xl_0, xl_1, cW_i, Nat.add_zero, Nat.reduceAdd, Nat.reduceMul, t_bn0, t_bn1, Classical.not_not, t_lt, nI_add, nI_1, pk_mul, nI_clamp, c_si, nI_eq, nI_leI, nM_ne, nM_ne, xm_u2_ne, xm_u2_at, reduceIte, Nat.reduceEqDiff]; (conv => whnf))
      | (refine ⟨_, rfl, ?_⟩; (conv => whnf))
      | (refine ⟨_, _, rfl, ?_⟩; (conv => whnf))
      | (refine ⟨_, _, _, rfl, ?_⟩; (conv => whnf))
      | (refine ⟨_, _, _, _, rfl, ?_⟩; (conv => whnf))
      | (rw [c_tl hr]; (conv => whnf))
      | (rw [c_t7 hr]; (conv => whnf))
      | (rw [c_tf hr (by decide)]; (conv => whnf))
      | (rw [c_t0 hr]; (conv => whnf))
      | (rw [c_t1 hr]; (conv => whnf))
      | (rw [c_t2 hr]; (conv => whnf))
      | (rw [c_t3 hr]; (conv => whnf))
      | (rw [c_t4 hr]; (conv => whnf))
      | (rw [c_t5 hr]; (conv => whnf))
      | (refine And.intro ⟨_, c_tl hr⟩ ?_; (conv => whnf))
      | (refine And.intro (fun c => ?_) (fun c => ?_) <;> (first | (exact absurd c (by decide +kernel)) | (conv => whnf)))
      | fail)
    exact fin
  have x96 : ∀ J, c_fa I J → (∀ j, j < 5 → J 2 j = g_facts (cK I L) (cA I r) p h j) → X 96 [some (.ref r), some (.int (nI p)), some (.int (nI h))] [] (cW P Z J) 0 0 := by
    intro J hJ hf
    have nx := x109
    clear x109
    refine hG _ _ _ _ _ _ ?_
    (conv => whnf)
    have e : J r 6 = I r 6 := by rw [hJ r (by have := hr.ne; omega)]
    have fin := nx _ (c_fa.tr hJ c_fa.u) (st (v := J r 6) hJ hf e).2
    repeat' (first
      | ((with_reducible refine @And.intro (vp_in _ _) _ ?_ ?_); (· (first | with_reducible assumption | ((with_reducible refine t_vin ?_); decide) | ((with_reducible refine vp_in_nI ?_ ?_) <;> first | omega | decide) | (simp (disch := omega) only [xl_n, xl_m, nI_dec, nI_sb, nI_add, pk_mul]; (with_reducible refine vp_in_nI ?_ ?_) <;> first | omega | decide))); (conv => whnf))
      | (refine And.intro (by first | with_reducible assumption | exact (show cL _ _ = _ from rfl) | decide) ?_; (conv => whnf))
      | ((with_reducible refine @And.intro (_ = _) _ ?_ ?_); (· rfl); (conv => whnf))
      | ((with_reducible refine @And.intro (@LE.le Nat _ _ _) _ ?_ ?_); (· (first | exact Nat.zero_le _ | exact Nat.le_of_ble_eq_true rfl | omega)); (conv => whnf))
      | ((with_reducible refine @And.intro (@LT.lt Nat _ _ _) _ ?_ ?_); (· omega); (conv => whnf))
      | ((with_reducible refine @And.intro (∃ _, _ = _) _ ?_ ?_); (· exact ⟨_, rfl⟩); (conv => whnf))
      | ((with_reducible refine @And.intro (_ ∨ _) _ ?_ ?_); (· (first | exact Or.inl rfl | exact Or.inr rfl | exact t_b01 _ | assumption)); (conv => whnf))
      | ((with_reducible refine @And.intro (¬ (_ = _)) _ ?_ ?_); (· first | assumption | (with_reducible assumption)); (conv => whnf))
      | (refine hX _ _ _ _ _ _ ?_; (conv => whnf); fail_if_success show False)
      | (rw [c_si]; simp (disch := omega) only [xl_n, xl_m, nI_dec, nI_sb, xl_0, xl_1, cW_i, Nat.add_zero, Nat.reduceAdd, Nat.reduceMul, t_bn0, t_bn1, Classical.not_not, t_lt, nI_add, nI_1, pk_mul, nI_clamp, c_si, nI_eq, nI_leI, nM_ne, nM_ne, xm_u2_ne, xm_u2_at, reduceIte, Nat.reduceEqDiff]; (conv => whnf))
      | (refine ⟨_, rfl, ?_⟩; (conv => whnf))
      | (refine ⟨_, _, rfl, ?_⟩; (conv => whnf))
      | (refine ⟨_, _, _, rfl, ?_⟩; (conv => whnf))
      | (refine ⟨_, _, _, _, rfl, ?_⟩; (conv => whnf))
      | (rw [c_tl hr]; (conv => whnf))
      | (rw [c_t7 hr]; (conv => whnf))
      | (rw [c_tf hr (by decide)]; (conv => whnf))
      | (rw [c_t0 hr]; (conv => whnf))
      | (rw [c_t1 hr]; (conv => whnf))
      | (rw [c_t2 hr]; (conv => whnf))
      | (rw [c_t3 hr]; (conv => whnf))
      | (rw [c_t4 hr]; (conv => whnf))
      | (rw [c_t5 hr]; (conv => whnf))
      | (refine And.intro ⟨_, c_tl hr⟩ ?_; (conv => whnf))
      | (refine And.intro (fun c => ?_) (fun c => ?_) <;> (first | (exact absurd c (by decide +kernel)) | (conv => whnf)))
      | fail)
    exact fin
  have x81 : ∀ J, c_fa I J → (∀ j, j < 4 → J 2 j = g_facts (cK I L) (cA I r) p h j) → X 81 [some (.ref r), some (.int (nI p)), some (.int (nI h))] [] (cW P Z J) 0 0 := by
    intro J hJ hf
    have nx := x96
    clear x96
    refine hG _ _ _ _ _ _ ?_
    (conv => whnf)
    have e : J (10 * r + 3) p = gs (cA I r) p := by rw [hJ _ (by have := hr.ne; omega), cA_gs (by omega)]
    have fin := nx _ (c_fa.tr hJ c_fa.u) (st (v := J (10 * r + 3) p) hJ hf e).2
    repeat' (first
      | ((with_reducible refine @And.intro (vp_in _ _) _ ?_ ?_); (· (first | with_reducible assumption | ((with_reducible refine t_vin ?_); decide) | ((with_reducible refine vp_in_nI ?_ ?_) <;> first | omega | decide) | (simp (disch := omega) only [xl_n, xl_m, nI_dec, nI_sb, nI_add, pk_mul]; (with_reducible refine vp_in_nI ?_ ?_) <;> first | omega | decide))); (conv => whnf))
      | (refine And.intro (by first | with_reducible assumption | exact (show cL _ _ = _ from rfl) | decide) ?_; (conv => whnf))
      | ((with_reducible refine @And.intro (_ = _) _ ?_ ?_); (· rfl); (conv => whnf))
      | ((with_reducible refine @And.intro (@LE.le Nat _ _ _) _ ?_ ?_); (· (first | exact Nat.zero_le _ | exact Nat.le_of_ble_eq_true rfl | omega)); (conv => whnf))
      | ((with_reducible refine @And.intro (@LT.lt Nat _ _ _) _ ?_ ?_); (· omega); (conv => whnf))
      | ((with_reducible refine @And.intro (∃ _, _ = _) _ ?_ ?_); (· exact ⟨_, rfl⟩); (conv => whnf))
      | ((with_reducible refine @And.intro (_ ∨ _) _ ?_ ?_); (· (first | exact Or.inl rfl | exact Or.inr rfl | exact t_b01 _ | assumption)); (conv => whnf))
      | ((with_reducible refine @And.intro (¬ (_ = _)) _ ?_ ?_); (· first | assumption | (with_reducible assumption)); (conv => whnf))
      | (refine hX _ _ _ _ _ _ ?_; (conv => whnf); fail_if_success show False)
      | (rw [c_si]; simp (disch := omega) only [xl_n, xl_m, nI_dec, nI_sb, xl_0, xl_1, cW_i, Nat.add_zero, Nat.reduceAdd, Nat.reduceMul, t_bn0, t_bn1, Classical.not_not, t_lt, nI_add, nI_1, pk_mul, nI_clamp, c_si, nI_eq, nI_leI, nM_ne, nM_ne, xm_u2_ne, xm_u2_at, reduceIte, Nat.reduceEqDiff]; (conv => whnf))
      | (refine ⟨_, rfl, ?_⟩; (conv => whnf))
      | (refine ⟨_, _, rfl, ?_⟩; (conv => whnf))
      | (refine ⟨_, _, _, rfl, ?_⟩; (conv => whnf))
      | (refine ⟨_, _, _, _, rfl, ?_⟩; (conv => whnf))
      | (rw [c_tl hr]; (conv => whnf))
      | (rw [c_t7 hr]; (conv => whnf))
      | (rw [c_tf hr (by decide)]; (conv => whnf))
      | (rw [c_t0 hr]; (conv => whnf))
      | (rw [c_t1 hr]; (conv => whnf))
      | (rw [c_t2 hr]; (conv => whnf))
      | (rw [c_t3 hr]; (conv => whnf))
      | (rw [c_t4 hr]; (conv => whnf))
      | (rw [c_t5 hr]; (conv => whnf))
      | (refine And.intro ⟨_, c_tl hr⟩ ?_; (conv => whnf))
      | (refine And.intro (fun c => ?_) (fun c => ?_) <;> (first | (exact absurd c (by decide +kernel)) | (conv => whnf)))
      | fail)
    exact fin
  have x64 : ∀ J, c_fa I J → (∀ j, j < 3 → J 2 j = g_facts (cK I L) (cA I r) p h j) → X 64 [some (.ref r), some (.int (nI p)), some (.int (nI h))] [] (cW P Z J) 0 0 := by
    intro J hJ hf
    have nx := x81
    clear x81
    refine hG _ _ _ _ _ _ ?_
    (conv => whnf)
    have hokJ := hJ.ok hok
    have hm9 : t_m9 (t_or (c_p J) (fun p => t_has (gw (cA J r) p) h)) := t_or_m9 (by rw [hJ.h.2]; omega)
    have fin := nx _ (c_fa.tr hJ c_fa.u) (st (v := t_ones (t_or (c_p J) (fun p => t_has (gw (cA J r) p) h))) hJ hf (by rw [wk hJ]; rfl)).2
    repeat' (first
      | ((with_reducible refine @And.intro (vp_in _ _) _ ?_ ?_); (· (first | with_reducible assumption | ((with_reducible refine t_vin ?_); decide) | ((with_reducible refine vp_in_nI ?_ ?_) <;> first | omega | decide) | (simp (disch := omega) only [xl_n, xl_m, nI_dec, nI_sb, nI_add, pk_mul]; (with_reducible refine vp_in_nI ?_ ?_) <;> first | omega | decide))); (conv => whnf))
      | (refine And.intro (by first | with_reducible assumption | exact (show cL _ _ = _ from rfl) | decide) ?_; (conv => whnf))
      | ((with_reducible refine @And.intro (_ = _) _ ?_ ?_); (· rfl); (conv => whnf))
      | ((with_reducible refine @And.intro (@LE.le Nat _ _ _) _ ?_ ?_); (· (first | exact Nat.zero_le _ | exact Nat.le_of_ble_eq_true rfl | omega)); (conv => whnf))
      | ((with_reducible refine @And.intro (@LT.lt Nat _ _ _) _ ?_ ?_); (· omega); (conv => whnf))
      | ((with_reducible refine @And.intro (∃ _, _ = _) _ ?_ ?_); (· exact ⟨_, rfl⟩); (conv => whnf))
      | ((with_reducible refine @And.intro (_ ∨ _) _ ?_ ?_); (· (first | exact Or.inl rfl | exact Or.inr rfl | exact t_b01 _ | assumption)); (conv => whnf))
      | ((with_reducible refine @And.intro (¬ (_ = _)) _ ?_ ?_); (· first | assumption | (with_reducible assumption)); (conv => whnf))
      | (refine hX _ _ _ _ _ _ ?_; (conv => whnf); fail_if_success show False)
      | (rw [c_si]; simp (disch := omega) only [xl_n, xl_m, nI_dec, nI_sb, xl_0, xl_1, cW_i, Nat.add_zero, Nat.reduceAdd, Nat.reduceMul, t_bn0, t_bn1, Classical.not_not, t_lt, nI_add, nI_1, pk_mul, nI_clamp, c_si, nI_eq, nI_leI, nM_ne, nM_ne, xm_u2_ne, xm_u2_at, reduceIte, Nat.reduceEqDiff]; (conv => whnf))
      | (refine ⟨_, rfl, ?_⟩; (conv => whnf))
      | (refine ⟨_, _, rfl, ?_⟩; (conv => whnf))
      | (refine ⟨_, _, _, rfl, ?_⟩; (conv => whnf))
      | (refine ⟨_, _, _, _, rfl, ?_⟩; (conv => whnf))
      | (rw [c_tl hr]; (conv => whnf))
      | (rw [c_t7 hr]; (conv => whnf))
      | (rw [c_tf hr (by decide)]; (conv => whnf))
      | (rw [c_t0 hr]; (conv => whnf))
      | (rw [c_t1 hr]; (conv => whnf))
      | (rw [c_t2 hr]; (conv => whnf))
      | (rw [c_t3 hr]; (conv => whnf))
      | (rw [c_t4 hr]; (conv => whnf))
      | (rw [c_t5 hr]; (conv => whnf))
      | (refine And.intro ⟨_, c_tl hr⟩ ?_; (conv => whnf))
      | (refine And.intro (fun c => ?_) (fun c => ?_) <;> (first | (exact absurd c (by decide +kernel)) | (conv => whnf)))
      | fail)
    exact fin
  have x38 : ∀ J, c_fa I J → (∀ j, j < 2 → J 2 j = g_facts (cK I L) (cA I r) p h j) → X 38 [some (.ref r), some (.int (nI p)), some (.int (nI h))] [] (cW P Z J) 0 0 := by
    intro J hJ hf
    have nx := x64
    clear x64
    refine hG _ _ _ _ _ _ ?_
    (conv => whnf)
    have e : J r 6 - J 31 h = gy (cA I r) - gborn (cK I L) h := by rw [hJ r (by have := hr.ne; omega), hJ 31 (by decide), cK_born hh]; rfl
    have fin := nx _ (c_fa.tr hJ c_fa.u) (st (v := J r 6 - J 31 h) hJ hf e).2
    repeat' (first
      | ((with_reducible refine @And.intro (vp_in _ _) _ ?_ ?_); (· (first | with_reducible assumption | ((with_reducible refine t_vin ?_); decide) | ((with_reducible refine vp_in_nI ?_ ?_) <;> first | omega | decide) | (simp (disch := omega) only [xl_n, xl_m, nI_dec, nI_sb, nI_add, pk_mul]; (with_reducible refine vp_in_nI ?_ ?_) <;> first | omega | decide))); (conv => whnf))
      | (refine And.intro (by first | with_reducible assumption | exact (show cL _ _ = _ from rfl) | decide) ?_; (conv => whnf))
      | ((with_reducible refine @And.intro (_ = _) _ ?_ ?_); (· rfl); (conv => whnf))
      | ((with_reducible refine @And.intro (@LE.le Nat _ _ _) _ ?_ ?_); (· (first | exact Nat.zero_le _ | exact Nat.le_of_ble_eq_true rfl | omega)); (conv => whnf))
      | ((with_reducible refine @And.intro (@LT.lt Nat _ _ _) _ ?_ ?_); (· omega); (conv => whnf))
      | ((with_reducible refine @And.intro (∃ _, _ = _) _ ?_ ?_); (· exact ⟨_, rfl⟩); (conv => whnf))
      | ((with_reducible refine @And.intro (_ ∨ _) _ ?_ ?_); (· (first | exact Or.inl rfl | exact Or.inr rfl | exact t_b01 _ | assumption)); (conv => whnf))
      | ((with_reducible refine @And.intro (¬ (_ = _)) _ ?_ ?_); (· first | assumption | (with_reducible assumption)); (conv => whnf))
      | (refine hX _ _ _ _ _ _ ?_; (conv => whnf); fail_if_success show False)
      | (rw [c_si]; simp (disch := omega) only [xl_n, xl_m, nI_dec, nI_sb, xl_0, xl_1, cW_i, Nat.add_zero, Nat.reduceAdd, Nat.reduceMul, t_bn0, t_bn1, Classical.not_not, t_lt, nI_add, nI_1, pk_mul, nI_clamp, c_si, nI_eq, nI_leI, nM_ne, nM_ne, xm_u2_ne, xm_u2_at, reduceIte, Nat.reduceEqDiff]; (conv => whnf))
      | (refine ⟨_, rfl, ?_⟩; (conv => whnf))
      | (refine ⟨_, _, rfl, ?_⟩; (conv => whnf))
      | (refine ⟨_, _, _, rfl, ?_⟩; (conv => whnf))
      | (refine ⟨_, _, _, _, rfl, ?_⟩; (conv => whnf))
      | (rw [c_tl hr]; (conv => whnf))
      | (rw [c_t7 hr]; (conv => whnf))
      | (rw [c_tf hr (by decide)]; (conv => whnf))
      | (rw [c_t0 hr]; (conv => whnf))
      | (rw [c_t1 hr]; (conv => whnf))
      | (rw [c_t2 hr]; (conv => whnf))
      | (rw [c_t3 hr]; (conv => whnf))
      | (rw [c_t4 hr]; (conv => whnf))
      | (rw [c_t5 hr]; (conv => whnf))
      | (refine And.intro ⟨_, c_tl hr⟩ ?_; (conv => whnf))
      | (refine And.intro (fun c => ?_) (fun c => ?_) <;> (first | (exact absurd c (by decide +kernel)) | (conv => whnf)))
      | fail)
    exact fin
  have x17 : ∀ J, c_fa I J → (∀ j, j < 1 → J 2 j = g_facts (cK I L) (cA I r) p h j) → X 17 [some (.ref r), some (.int (nI p)), some (.int (nI h))] [] (cW P Z J) 0 0 := by
    intro J hJ hf
    have nx := x38
    clear x38
    refine hG _ _ _ _ _ _ ?_
    (conv => whnf)
    have e : J 35 p = gfall (cK I L) p := by rw [hJ 35 (by decide), cK_fall hp]
    have fin := nx _ (c_fa.tr hJ c_fa.u) (st (v := J 35 p) hJ hf e).2
    repeat' (first
      | ((with_reducible refine @And.intro (vp_in _ _) _ ?_ ?_); (· (first | with_reducible assumption | ((with_reducible refine t_vin ?_); decide) | ((with_reducible refine vp_in_nI ?_ ?_) <;> first | omega | decide) | (simp (disch := omega) only [xl_n, xl_m, nI_dec, nI_sb, nI_add, pk_mul]; (with_reducible refine vp_in_nI ?_ ?_) <;> first | omega | decide))); (conv => whnf))
      | (refine And.intro (by first | with_reducible assumption | exact (show cL _ _ = _ from rfl) | decide) ?_; (conv => whnf))
      | ((with_reducible refine @And.intro (_ = _) _ ?_ ?_); (· rfl); (conv => whnf))
      | ((with_reducible refine @And.intro (@LE.le Nat _ _ _) _ ?_ ?_); (· (first | exact Nat.zero_le _ | exact Nat.le_of_ble_eq_true rfl | omega)); (conv => whnf))
      | ((with_reducible refine @And.intro (@LT.lt Nat _ _ _) _ ?_ ?_); (· omega); (conv => whnf))
      | ((with_reducible refine @And.intro (∃ _, _ = _) _ ?_ ?_); (· exact ⟨_, rfl⟩); (conv => whnf))
      | ((with_reducible refine @And.intro (_ ∨ _) _ ?_ ?_); (· (first | exact Or.inl rfl | exact Or.inr rfl | exact t_b01 _ | assumption)); (conv => whnf))
      | ((with_reducible refine @And.intro (¬ (_ = _)) _ ?_ ?_); (· first | assumption | (with_reducible assumption)); (conv => whnf))
      | (refine hX _ _ _ _ _ _ ?_; (conv => whnf); fail_if_success show False)
      | (rw [c_si]; simp (disch := omega) only [xl_n, xl_m, nI_dec, nI_sb, xl_0, xl_1, cW_i, Nat.add_zero, Nat.reduceAdd, Nat.reduceMul, t_bn0, t_bn1, Classical.not_not, t_lt, nI_add, nI_1, pk_mul, nI_clamp, c_si, nI_eq, nI_leI, nM_ne, nM_ne, xm_u2_ne, xm_u2_at, reduceIte, Nat.reduceEqDiff]; (conv => whnf))
      | (refine ⟨_, rfl, ?_⟩; (conv => whnf))
      | (refine ⟨_, _, rfl, ?_⟩; (conv => whnf))
      | (refine ⟨_, _, _, rfl, ?_⟩; (conv => whnf))
      | (refine ⟨_, _, _, _, rfl, ?_⟩; (conv => whnf))
      | (rw [c_tl hr]; (conv => whnf))
      | (rw [c_t7 hr]; (conv => whnf))
      | (rw [c_tf hr (by decide)]; (conv => whnf))
      | (rw [c_t0 hr]; (conv => whnf))
      | (rw [c_t1 hr]; (conv => whnf))
      | (rw [c_t2 hr]; (conv => whnf))
      | (rw [c_t3 hr]; (conv => whnf))
      | (rw [c_t4 hr]; (conv => whnf))
      | (rw [c_t5 hr]; (conv => whnf))
      | (refine And.intro ⟨_, c_tl hr⟩ ?_; (conv => whnf))
      | (refine And.intro (fun c => ?_) (fun c => ?_) <;> (first | (exact absurd c (by decide +kernel)) | (conv => whnf)))
      | fail)
    exact fin
  have fin := x17 _ c_fa.u (st (k := 0) (v := c_limp I h) c_fa.rf (fun j hj => by omega) (cK_limp (L := L) hh).symm).2
  have hh9 : h < 9 := by omega
  clear x17
  refine ⟨rfl, ?_⟩
  repeat' (first
    | ((with_reducible refine @And.intro (vp_in _ _) _ ?_ ?_); (· (first | with_reducible assumption | ((with_reducible refine t_vin ?_); decide) | ((with_reducible refine vp_in_nI ?_ ?_) <;> first | omega | decide) | (simp (disch := omega) only [xl_n, xl_m, nI_dec, nI_sb, nI_add, pk_mul]; (with_reducible refine vp_in_nI ?_ ?_) <;> first | omega | decide))); (conv => whnf))
    | (refine And.intro (by first | with_reducible assumption | exact (show cL _ _ = _ from rfl) | decide) ?_; (conv => whnf))
    | ((with_reducible refine @And.intro (_ = _) _ ?_ ?_); (· rfl); (conv => whnf))
    | ((with_reducible refine @And.intro (@LE.le Nat _ _ _) _ ?_ ?_); (· (first | exact Nat.zero_le _ | exact Nat.le_of_ble_eq_true rfl | omega)); (conv => whnf))
    | ((with_reducible refine @And.intro (@LT.lt Nat _ _ _) _ ?_ ?_); (· omega); (conv => whnf))
    | ((with_reducible refine @And.intro (∃ _, _ = _) _ ?_ ?_); (· exact ⟨_, rfl⟩); (conv => whnf))
    | ((with_reducible refine @And.intro (_ ∨ _) _ ?_ ?_); (· (first | exact Or.inl rfl | exact Or.inr rfl | exact t_b01 _ | assumption)); (conv => whnf))
    | ((with_reducible refine @And.intro (¬ (_ = _)) _ ?_ ?_); (· first | assumption | (with_reducible assumption)); (conv => whnf))
    | (refine hX _ _ _ _ _ _ ?_; (conv => whnf); fail_if_success show False)
    | (rw [c_si]; simp (disch := omega) only [xl_n, xl_m, nI_dec, nI_sb, xl_0, xl_1, cW_i, Nat.add_zero, Nat.reduceAdd, Nat.reduceMul, t_bn0, t_bn1, Classical.not_not, t_lt, nI_add, nI_1, pk_mul, nI_clamp, c_si, nI_eq, nI_leI, nM_ne, nM_ne, xm_u2_ne, xm_u2_at, reduceIte, Nat.reduceEqDiff]; (conv => whnf))
    | (refine ⟨_, rfl, ?_⟩; (conv => whnf))
    | (refine ⟨_, _, rfl, ?_⟩; (conv => whnf))
    | (refine ⟨_, _, _, rfl, ?_⟩; (conv => whnf))
    | (refine ⟨_, _, _, _, rfl, ?_⟩; (conv => whnf))
    | (rw [c_tl hr]; (conv => whnf))
    | (rw [c_t7 hr]; (conv => whnf))
    | (rw [c_tf hr (by decide)]; (conv => whnf))
    | (rw [c_t0 hr]; (conv => whnf))
    | (rw [c_t1 hr]; (conv => whnf))
    | (rw [c_t2 hr]; (conv => whnf))
    | (rw [c_t3 hr]; (conv => whnf))
    | (rw [c_t4 hr]; (conv => whnf))
    | (rw [c_t5 hr]; (conv => whnf))
    | (refine And.intro ⟨_, c_tl hr⟩ ?_; (conv => whnf))
    | (refine And.intro (fun c => ?_) (fun c => ?_) <;> (first | (exact absurd c (by decide +kernel)) | (conv => whnf)))
    | fail)
  exact fin
theorem ct_X10_score : xm_Ct cI yX10_score (ws_ yX10_score cX10_score 3 (some .int)) 160 0 0 S_X10_score := xm_enter (rt := 0) (init := false) (by decide +kernel) rfl (fun h => by cases h) (Or.inl ⟨rfl, rfl⟩) (oX10_score) body_X10_score
theorem cv_X10_score {own : String} {cc : ByteArray} {fr pc idx : Nat} (hdg : decode cc pc = .ok (.invokevirtual idx, 3)) (hl : xm_ml own idx yX10_score) (hfr : 160 < fr) : xm_CallOK cI own cc fr pc (pc + 3) 3 0 0 (xm_this 7 S_X10_score) := xm_callV 7 cI_good (ct_X10_score) hdg hl q915 q916 q144 q917 rfl rfl (by decide +kernel) hfr (by decide)
