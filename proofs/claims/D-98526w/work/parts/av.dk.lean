/-! ===== the component: lacking ===== -/
set_option maxRecDepth 100000
set_option maxHeartbeats 2000000
theorem t_m9_an {x y : Int32} (h : t_m9 x) : t_m9 (x &&& y) := by
  have : x &&& y = t_or 9 (fun k => t_has (x &&& y) k) := th_ext fun k hk => by
    rw [th_OR (by omega) hk]
    by_cases q : k < 9
    · rw [decide_eq_true q, Bool.true_and]
    · rw [decide_eq_false q, th_and hk, th_m9 h (by omega) hk]
      rfl
  rw [this]
  exact t_or_m9 (Nat.le_refl _)
theorem g_lkN_1 {G : gG} {s : Int32} : ∀ {n : Nat}, (g_lkN G s n).1 = t_sum n fun p => if t_has s p = true then gneeds (gGK G) p else nI 0
  | 0 => rfl
  | n + 1 => by
    rw [g_lkN_s, t_sum_s, ← g_lkN_1]
    split
    · rfl
    · exact (Int32.add_zero _).symm
theorem g_lk_9 {G : gG} {bits : Int32} : ∀ {n : Nat}, n ≤ 511 → t_m9 (g_lk G bits n)
  | 0, _ => ⟨0, by decide, rfl⟩
  | n + 1, h => by
    rw [g_lk_s]
    unfold g_lkS
    split
    · exact g_lk_9 (by omega)
    · split
      · exact g_lk_9 (by omega)
      · split
        · exact g_lk_9 (by omega)
        · exact ⟨n + 1, by omega, rfl⟩
theorem c_h8 : ∀ k, k < 255 → ∀ n, n < 9 → 2 ^ n ≤ k + 1 → t_ex 8 (fun b => decide (n ≤ b) && t_has (nI (k + 1)) b) = true := by decide +kernel
/-- beyond the last puppet no set is found -/
theorem g_lk_255 {G : gG} {bits : Int32} (h8 : gm (gGK G) ≤ 8) (hb : ∀ k, k < 32 → t_has bits k = true → k < gm (gGK G)) : g_lk G bits 255 = g_lk G bits (2 ^ gm (gGK G) - 1) := by
  have hp : 0 < 2 ^ gm (gGK G) := Nat.pow_pos (by omega)
  have hle : 2 ^ gm (gGK G) ≤ 2 ^ 8 := Nat.pow_le_pow_right (by omega) h8
  have : ∀ k, 2 ^ gm (gGK G) - 1 ≤ k → k ≤ 255 → g_lk G bits k = g_lk G bits (2 ^ gm (gGK G) - 1) := by
    intro k
    induction k with
    | zero =>
      intro h _
      rw [show 2 ^ gm (gGK G) - 1 = 0 by omega]
    | succ k ih =>
      intro h hk
      by_cases e : 2 ^ gm (gGK G) - 1 = k + 1
      · rw [e]
      · rw [g_lk_s, ih (by omega) (by omega)]
        obtain ⟨b, hb1, hb2⟩ := t_ex_e (c_h8 k (by omega) (gm (gGK G)) (by omega) (by omega))
        rw [Bool.and_eq_true, decide_eq_true_eq] at hb2
        unfold g_lkS
        rw [if_pos]
        intro q
        have q := th_z.mp q b (by omega) hb2.2
        rw [th_not (by omega)] at q
        cases r : t_has bits b with
        | false => rw [r] at q; cases q
        | true => exact absurd (hb b (by omega) r) (by omega)
  exact this 255 (by omega) (Nat.le_refl _)
abbrev bX1_lacking_0 : List xE := [(.aload_n 0, 1, 0, 0, 0), (.iload_n 1, 2, 0, 0, 0), (.invokevirtual 262, 5, 0, 0, 9), (.aload_n 0, 6, 0, 0, 0), (.iload_n 1, 7, 0, 0, 0), (.invokevirtual 265, 10, 0, 1, 9), (.getfield 272, 13, 11, 3, 0), (.istore_n 2, 14, 0, 0, 0), (.iconst 0, 15, 0, 0, 0), (.istore_n 3, 16, 0, 0, 0), (.iconst 1, 17, 0, 0, 0), (.istore 4, 19, 0, 0, 0)]
abbrev bX1_lacking_19 : List xE := [(.iload 4, 21, 0, 0, 0), (.sipush 256, 24, 0, 0, 0), (.if_icmp .ge 120, 27, 0, 144, 0), (.iload 4, 29, 0, 0, 0), (.iload_n 2, 30, 0, 0, 0), (.iconst (-1), 31, 0, 0, 0), (.ixor, 32, 0, 0, 0), (.iand, 33, 0, 0, 0), (.ifCond .ne 105, 36, 0, 138, 0), (.iload_n 3, 37, 0, 0, 0), (.ifCond .eq 18, 40, 0, 55, 0), (.iload 4, 42, 0, 0, 0), (.invokestatic 207, 45, 0, 2, 9), (.iload_n 3, 46, 0, 0, 0), (.invokestatic 207, 49, 0, 2, 9), (.if_icmp .lt 6, 52, 0, 55, 0), (.goto 86, 55, 0, 138, 0)]
abbrev bX1_lacking_55 : List xE := [(.aload_n 0, 56, 0, 0, 0), (.getfield 58, 59, 0, 5, 1), (.invokevirtual 204, 62, 0, 3, 9), (.istore 5, 64, 0, 0, 0), (.iconst 0, 65, 0, 0, 0), (.istore 6, 67, 0, 0, 0)]
abbrev bX1_lacking_67 : List xE := [(.iload 6, 69, 0, 0, 0), (.aload_n 0, 70, 0, 0, 0), (.getfield 31, 73, 0, 0, 1), (.getfield 133, 76, 1, 12, 0), (.if_icmp .ge 35, 79, 0, 111, 0), (.iload 4, 81, 0, 0, 0), (.iload 6, 83, 0, 0, 0), (.ishr, 84, 0, 0, 0), (.iconst 1, 85, 0, 0, 0), (.iand, 86, 0, 0, 0), (.iconst 1, 87, 0, 0, 0), (.if_icmp .ne 18, 90, 0, 105, 0), (.iload 5, 92, 0, 0, 0), (.aload_n 0, 93, 0, 0, 0), (.getfield 31, 96, 0, 0, 1), (.getfield 334, 99, 1, 9, 1), (.iload 6, 101, 0, 0, 0), (.iaload, 102, 0, 0, 0), (.iand, 103, 0, 0, 0), (.istore 5, 105, 0, 0, 0)]
abbrev bX1_lacking_105 : List xE := [(.iinc 6 1, 108, 0, 0, 0), (.goto (-41), 111, 0, 67, 0)]
abbrev bX1_lacking_111 : List xE := [(.aload_n 0, 112, 0, 0, 0), (.iload 4, 114, 0, 0, 0), (.invokevirtual 275, 117, 0, 4, 9), (.aload_n 0, 118, 0, 0, 0), (.getfield 58, 121, 0, 5, 1), (.invokevirtual 204, 124, 0, 3, 9), (.iload 5, 126, 0, 0, 0), (.iconst (-1), 127, 0, 0, 0), (.ixor, 128, 0, 0, 0), (.iand, 129, 0, 0, 0), (.invokestatic 207, 132, 0, 2, 9), (.if_icmp .le 6, 135, 0, 138, 0), (.iload 4, 137, 0, 0, 0), (.istore_n 3, 138, 0, 0, 0)]
abbrev bX1_lacking_138 : List xE := [(.iinc 4 1, 141, 0, 0, 0), (.goto (-122), 144, 0, 19, 0)]
abbrev bX1_lacking_144 : List xE := [(.iload_n 3, 145, 0, 0, 0), (.ireturn, 146, 0, 0, 0)]
abbrev kX1_lacking : List (Nat × List xE) := [(0, bX1_lacking_0), (19, bX1_lacking_19), (55, bX1_lacking_55), (67, bX1_lacking_67), (105, bX1_lacking_105), (111, bX1_lacking_111), (138, bX1_lacking_138), (144, bX1_lacking_144)]
abbrev lX1_lacking : List (Nat × Nat × Nat × xS) := [(2, 1, 6, xm_this 0 S_X1_needAct), (2, 0, 0, xm_this 0 S_X1_actOf), (1, 0, 0, S_J16_bitCount), (1, 0, 0, xm_this 7 S_X10_alive), (2, 0, 0, xm_this 0 S_X1_needsOf)]
theorem oX1_lacking_0  : xm_okb cI RX1 cX1_lacking false 8 lX1_lacking bX1_lacking_0 0 := xo_0 dX1_lacking_0 rfl trivial (xo_0 dX1_lacking_1 rfl trivial (xo_c rfl (cv_X1_needAct dX1_lacking_2 (Or.inl q1618) (by decide)) (xo_0 dX1_lacking_5 rfl trivial (xo_0 dX1_lacking_6 rfl trivial (xo_c rfl (cv_X1_actOf dX1_lacking_7 (Or.inl q822) (by decide)) (xo_0 dX1_lacking_10 rfl (xm_fg_of (Or.inr ⟨_, q1310⟩) (by decide) rfl (by decide) rfl rfl (Or.inl rfl) rfl) (xo_0 dX1_lacking_13 rfl trivial (xo_0 dX1_lacking_14 rfl trivial (xo_0 dX1_lacking_15 rfl trivial (xo_0 dX1_lacking_16 rfl trivial (xo_0 dX1_lacking_17 rfl trivial (xo_n))))))))))))
theorem oX1_lacking_19  : xm_okb cI RX1 cX1_lacking false 8 lX1_lacking bX1_lacking_19 19 := xo_0 dX1_lacking_19 rfl trivial (xo_0 dX1_lacking_21 rfl (xo_sipush (by decide +kernel)) (xo_0 dX1_lacking_24 rfl rfl (xo_0 dX1_lacking_27 rfl trivial (xo_0 dX1_lacking_29 rfl trivial (xo_0 dX1_lacking_30 rfl trivial (xo_0 dX1_lacking_31 rfl trivial (xo_0 dX1_lacking_32 rfl trivial (xo_0 dX1_lacking_33 rfl rfl (xo_0 dX1_lacking_36 rfl trivial (xo_0 dX1_lacking_37 rfl rfl (xo_0 dX1_lacking_40 rfl trivial (xo_c rfl (cv_J16_bitCount dX1_lacking_42 (Or.inl q846) (by decide)) (xo_0 dX1_lacking_45 rfl trivial (xo_c rfl (cv_J16_bitCount dX1_lacking_46 (Or.inl q846) (by decide)) (xo_0 dX1_lacking_49 rfl rfl (xo_0 dX1_lacking_52 rfl rfl (xo_n)))))))))))))))))
theorem oX1_lacking_55  : xm_okb cI RX1 cX1_lacking false 8 lX1_lacking bX1_lacking_55 55 := xo_0 dX1_lacking_55 rfl trivial (xo_1 dX1_lacking_56 rfl (xm_fg_of (Or.inl q724) (by decide) rfl (by decide) rfl rfl (Or.inl rfl) rfl) (xo_c rfl (cv_X10_alive dX1_lacking_59 (Or.inl q802) (by decide)) (xo_0 dX1_lacking_62 rfl trivial (xo_0 dX1_lacking_64 rfl trivial (xo_0 dX1_lacking_65 rfl trivial (xo_n))))))
theorem oX1_lacking_67  : xm_okb cI RX1 cX1_lacking false 8 lX1_lacking bX1_lacking_67 67 := xo_0 dX1_lacking_67 rfl trivial (xo_0 dX1_lacking_69 rfl trivial (xo_1 dX1_lacking_70 rfl (xm_fg_of (Or.inl q716) (by decide) rfl (by decide) rfl rfl (Or.inl rfl) rfl) (xo_0 dX1_lacking_73 rfl (xm_fg_of (Or.inr ⟨_, q560⟩) (by decide) rfl (by decide) rfl rfl (Or.inl rfl) rfl) (xo_0 dX1_lacking_76 rfl rfl (xo_0 dX1_lacking_79 rfl trivial (xo_0 dX1_lacking_81 rfl trivial (xo_0 dX1_lacking_83 rfl trivial (xo_0 dX1_lacking_84 rfl trivial (xo_0 dX1_lacking_85 rfl trivial (xo_0 dX1_lacking_86 rfl trivial (xo_0 dX1_lacking_87 rfl rfl (xo_0 dX1_lacking_90 rfl trivial (xo_0 dX1_lacking_92 rfl trivial (xo_1 dX1_lacking_93 rfl (xm_fg_of (Or.inl q716) (by decide) rfl (by decide) rfl rfl (Or.inl rfl) rfl) (xo_1 dX1_lacking_96 rfl (xm_fg_of (Or.inr ⟨_, q549⟩) (by decide) rfl (by decide) rfl rfl (Or.inl rfl) rfl) (xo_0 dX1_lacking_99 rfl trivial (xo_0 dX1_lacking_101 rfl trivial (xo_0 dX1_lacking_102 rfl trivial (xo_0 dX1_lacking_103 rfl trivial (xo_n))))))))))))))))))))
theorem oX1_lacking_105  : xm_okb cI RX1 cX1_lacking false 8 lX1_lacking bX1_lacking_105 105 := xo_0 dX1_lacking_105 rfl trivial (xo_0 dX1_lacking_108 rfl rfl (xo_n))
theorem oX1_lacking_111  : xm_okb cI RX1 cX1_lacking false 8 lX1_lacking bX1_lacking_111 111 := xo_0 dX1_lacking_111 rfl trivial (xo_0 dX1_lacking_112 rfl trivial (xo_c rfl (cv_X1_needsOf dX1_lacking_114 (Or.inl q1622) (by decide)) (xo_0 dX1_lacking_117 rfl trivial (xo_1 dX1_lacking_118 rfl (xm_fg_of (Or.inl q724) (by decide) rfl (by decide) rfl rfl (Or.inl rfl) rfl) (xo_c rfl (cv_X10_alive dX1_lacking_121 (Or.inl q802) (by decide)) (xo_0 dX1_lacking_124 rfl trivial (xo_0 dX1_lacking_126 rfl trivial (xo_0 dX1_lacking_127 rfl trivial (xo_0 dX1_lacking_128 rfl trivial (xo_c rfl (cv_J16_bitCount dX1_lacking_129 (Or.inl q846) (by decide)) (xo_0 dX1_lacking_132 rfl rfl (xo_0 dX1_lacking_135 rfl trivial (xo_0 dX1_lacking_137 rfl trivial (xo_n))))))))))))))
theorem oX1_lacking_138  : xm_okb cI RX1 cX1_lacking false 8 lX1_lacking bX1_lacking_138 138 := xo_0 dX1_lacking_138 rfl trivial (xo_0 dX1_lacking_141 rfl rfl (xo_n))
theorem oX1_lacking_144  : xm_okb cI RX1 cX1_lacking false 8 lX1_lacking bX1_lacking_144 144 := xo_0 dX1_lacking_144 rfl trivial (xo_0 dX1_lacking_145 rfl trivial (xo_n))
theorem oX1_lacking  : ∀ q ∈ kX1_lacking, xm_okb cI RX1 cX1_lacking false 8 lX1_lacking q.2 q.1 := by
  intro q hq
  simp only [List.mem_cons, List.not_mem_nil, or_false] at hq
  rcases hq with rfl | rfl | rfl | rfl | rfl | rfl | rfl | rfl
  · exact oX1_lacking_0  
  · exact oX1_lacking_19  
  · exact oX1_lacking_55  
  · exact oX1_lacking_67  
  · exact oX1_lacking_105  
  · exact oX1_lacking_111  
  · exact oX1_lacking_138  
  · exact oX1_lacking_144  
def S_X1_lacking : xS := cU fun as P Z I Q QX => ∃ a L, as = [.ref 0, .int a] ∧ c_good P Z I L ∧ g_ok (cG P I L) ∧ c_P P Z L (cG P I L) Q QX (q_lacking (cG P I L) a)
theorem body_X1_lacking : xm_Body 7 0 1 6 [] lX1_lacking kX1_lacking S_X1_lacking := by
  intro X avs w Q QX hX0 hS
  have hG := xm_go [] hX0
  have hX := xm_go [19,67,105,138] hX0
  clear hX0
  obtain ⟨P, Z, I, rfl, a, L, rfl, hg, hk0, hQ⟩ := hS
  have hok := hg.ok
  obtain ⟨hn, h9, hm, h8⟩ := id hok
  have h5 := c_5 (P := P)
  have hi := hg.now.2.2.1
  have hl := hg.ls
  obtain ⟨h6, hs, hc, hc2⟩ := id hl
  refine ⟨rfl, ?_⟩
  repeat' (first
    | ((with_reducible refine @And.intro (vp_in _ _) _ ?_ ?_); (· (first | with_reducible assumption | ((with_reducible refine t_vin ?_); decide) | ((with_reducible refine vp_in_nI ?_ ?_) <;> first | omega | decide) | (simp (disch := omega) only [xl_n, xl_m, nI_dec, nI_sb, nI_add, pk_mul]; (with_reducible refine vp_in_nI ?_ ?_) <;> first | omega | decide))); (conv => whnf))
    | (refine And.intro (by first | with_reducible assumption | exact (show cL _ _ = _ from rfl) | decide) ?_; (conv => whnf))
    | ((with_reducible refine @And.intro (_ = _) _ ?_ ?_); (· rfl); (conv => whnf))
    | ((with_reducible refine @And.intro (@LE.le Nat _ _ _) _ ?_ ?_); (· (first | exact Nat.zero_le _ | exact Nat.le_of_ble_eq_true rfl | omega)); (conv => whnf))
    | ((with_reducible refine @And.intro (@LT.lt Nat _ _ _) _ ?_ ?_); (· omega); (conv => whnf))
    | ((with_reducible refine @And.intro (∃ _, _ = _) _ ?_ ?_); (· exact ⟨_, rfl⟩); (conv => whnf))
    | ((with_reducible refine @And.intro (_ ∨ _) _ ?_ ?_); (· (first | exact Or.inl rfl | exact Or.inr rfl | exact t_b01 _ | assumption)); (conv => whnf))
    | ((with_reducible refine @And.intro (¬ (_ = _)) _ ?_ ?_); (· first | assumption | (with_reducible assumption)); (conv => whnf))
    | (refine hX _ _ _ _ _ _ ?_; (conv => whnf); fail_if_success show False)
    | (rw [c_si]; (conv => whnf))
    | (refine ⟨_, rfl, ?_⟩; (conv => whnf))
    | (refine ⟨_, _, rfl, ?_⟩; (conv => whnf))
    | (refine ⟨_, _, _, rfl, ?_⟩; (conv => whnf))
    | (refine ⟨_, _, _, _, rfl, ?_⟩; (conv => whnf))
    | (refine ⟨a,rfl,hs,h6,?_⟩; (conv => whnf))
    | fail)
  refine ⟨fun e => ?_, fun e x hx => ?_⟩
  · obtain ⟨a, ha, rfl⟩ := t_in_of (by omega) e
    have f : g_isA (cG P I L) (nI a) = true := e
    obtain ⟨-, -, a3, -⟩ := hg.2.2.2.1 a ha
    rw [q_lacking, f, g_ck_t, nI_clamp (by omega), ← a3] at hQ
    obtain ⟨-, -, p3, -⟩ := hk0.2.1.2.2 a ha
    have hbits : ∀ k, k < 32 → t_has (I (80 + a) 3) k = true → k < c_p I := fun k hk hb => by
      rw [a3] at hb
      unfold g_bits at hb
      rw [g_bitsN_has (fun i hi => by have := p3 i hi; have : gm (gGK (cG P I L)) = c_p I := rfl; omega) (Nat.le_refl _) hk] at hb
      obtain ⟨i, hi, q⟩ := t_ex_e hb
      rw [decide_eq_true_eq] at q
      rw [q]
      exact p3 i hi
    obtain ⟨bits, hbe⟩ : ∃ bits, bits = I (80 + a) 3 := ⟨_, rfl⟩
    rw [← hbe] at hQ hbits
    have e255 := g_lk_255 (G := cG P I L) h8 hbits
    have loop : ∀ k, k ≤ 255 → ∀ o o', (o = none ∨ ∃ z, o = some (.int z)) → (o' = none ∨ ∃ z, o' = some (.int z)) → X 19 [some (.ref 0), some (.int (nI a)), some (.int bits), some (.int (g_lk (cG P I L) bits k)), some (.int (nI (k + 1))), o, o'] [] (cW P Z I) 0 0 := by
      refine t_for fun k h1 ih o o' ho ho' => ?_
      by_cases hk : k = 255
      · subst hk
        have d1 : Int32.ofInt 256 ≤ nI (255 + 1) := by decide +kernel
        rw [e255]
        have fin := c_ask hQ hg c_sp.rf rfl
        clear ih hQ
        rcases ho with rfl | ⟨z, rfl⟩
        all_goals rcases ho' with rfl | ⟨z', rfl⟩
        all_goals
          refine hG _ _ _ _ _ _ ?_
          (conv => whnf)
          repeat' (first
            | ((with_reducible refine @And.intro (vp_in _ _) _ ?_ ?_); (· (first | with_reducible assumption | ((with_reducible refine t_vin ?_); decide) | ((with_reducible refine vp_in_nI ?_ ?_) <;> first | omega | decide) | (simp (disch := omega) only [xl_n, xl_m, nI_dec, nI_sb, nI_add, pk_mul]; (with_reducible refine vp_in_nI ?_ ?_) <;> first | omega | decide))); (conv => whnf))
            | (refine And.intro (by first | with_reducible assumption | exact (show cL _ _ = _ from rfl) | decide) ?_; (conv => whnf))
            | ((with_reducible refine @And.intro (_ = _) _ ?_ ?_); (· rfl); (conv => whnf))
            | ((with_reducible refine @And.intro (@LE.le Nat _ _ _) _ ?_ ?_); (· (first | exact Nat.zero_le _ | exact Nat.le_of_ble_eq_true rfl | omega)); (conv => whnf))
            | ((with_reducible refine @And.intro (@LT.lt Nat _ _ _) _ ?_ ?_); (· omega); (conv => whnf))
            | ((with_reducible refine @And.intro (∃ _, _ = _) _ ?_ ?_); (· exact ⟨_, rfl⟩); (conv => whnf))
            | ((with_reducible refine @And.intro (_ ∨ _) _ ?_ ?_); (· (first | exact Or.inl rfl | exact Or.inr rfl | exact t_b01 _ | assumption)); (conv => whnf))
            | ((with_reducible refine @And.intro (¬ (_ = _)) _ ?_ ?_); (· first | assumption | (with_reducible assumption)); (conv => whnf))
            | (refine hX _ _ _ _ _ _ ?_; (conv => whnf); fail_if_success show False)
            | (rw [c_si]; (conv => whnf))
            | (refine ⟨_, rfl, ?_⟩; (conv => whnf))
            | (refine ⟨_, _, rfl, ?_⟩; (conv => whnf))
            | (refine ⟨_, _, _, rfl, ?_⟩; (conv => whnf))
            | (refine ⟨_, _, _, _, rfl, ?_⟩; (conv => whnf))
            | (refine And.intro (fun c => ?_) (fun c => ?_) <;> (first | (exact absurd c (by decide +kernel)) | (exact absurd c (by assumption)) | (exact False.elim (c (by assumption))) | (conv => whnf)))
            | fail)
          exact fin
      · have d1 : ¬ Int32.ofInt 256 ≤ nI (k + 1) := by
          rw [show Int32.ofInt 256 = nI 256 by decide +kernel, nI_leI (by omega) (by omega)]
          omega
        have m9 := t_m9_s (k := k) (by omega)
        have b9 := g_lk_9 (G := cG P I L) (bits := bits) (n := k) (by omega)
        clear hQ
        have x138 : ∀ b o o', b = g_lk (cG P I L) bits (k + 1) → (o = none ∨ ∃ z, o = some (.int z)) → (o' = none ∨ ∃ z, o' = some (.int z)) → X 138 [some (.ref 0), some (.int (nI a)), some (.int bits), some (.int b), some (.int (nI (k + 1))), o, o'] [] (cW P Z I) 0 0 := fun b o o' hb ho ho' => by
          have := ih (k + 1) (by omega) (by omega) o o' ho ho'
          rw [← hb] at this
          clear ih
          rcases ho with rfl | ⟨z, rfl⟩
          all_goals rcases ho' with rfl | ⟨z', rfl⟩
          all_goals
            refine hG _ _ _ _ _ _ ?_
            (conv => whnf)
            repeat' (first
              | ((with_reducible refine @And.intro (vp_in _ _) _ ?_ ?_); (· (first | with_reducible assumption | ((with_reducible refine t_vin ?_); decide) | ((with_reducible refine vp_in_nI ?_ ?_) <;> first | omega | decide) | (simp (disch := omega) only [xl_n, xl_m, nI_dec, nI_sb, nI_add, pk_mul]; (with_reducible refine vp_in_nI ?_ ?_) <;> first | omega | decide))); (conv => whnf))
              | (refine And.intro (by first | with_reducible assumption | exact (show cL _ _ = _ from rfl) | decide) ?_; (conv => whnf))
              | ((with_reducible refine @And.intro (_ = _) _ ?_ ?_); (· rfl); (conv => whnf))
              | ((with_reducible refine @And.intro (@LE.le Nat _ _ _) _ ?_ ?_); (· (first | exact Nat.zero_le _ | exact Nat.le_of_ble_eq_true rfl | omega)); (conv => whnf))
              | ((with_reducible refine @And.intro (@LT.lt Nat _ _ _) _ ?_ ?_); (· omega); (conv => whnf))
              | ((with_reducible refine @And.intro (∃ _, _ = _) _ ?_ ?_); (· exact ⟨_, rfl⟩); (conv => whnf))
              | ((with_reducible refine @And.intro (_ ∨ _) _ ?_ ?_); (· (first | exact Or.inl rfl | exact Or.inr rfl | exact t_b01 _ | assumption)); (conv => whnf))
              | ((with_reducible refine @And.intro (¬ (_ = _)) _ ?_ ?_); (· first | assumption | (with_reducible assumption)); (conv => whnf))
              | (refine hX _ _ _ _ _ _ ?_; (conv => whnf); fail_if_success show False)
              | (rw [c_si]; (conv => whnf))
              | (refine ⟨_, rfl, ?_⟩; (conv => whnf))
              | (refine ⟨_, _, rfl, ?_⟩; (conv => whnf))
              | (refine ⟨_, _, _, rfl, ?_⟩; (conv => whnf))
              | (refine ⟨_, _, _, _, rfl, ?_⟩; (conv => whnf))
              | (refine And.intro (fun c => ?_) (fun c => ?_) <;> (first | (exact absurd c (by decide +kernel)) | (conv => whnf)))
              | fail)
            clear hX hG
            simp (disch := omega) only [xl_n, xl_m, nI_dec, nI_sb, xl_0, xl_1, cW_i, Nat.add_zero, Nat.reduceAdd, Nat.reduceMul, t_bn0, t_bn1, Classical.not_not, t_lt, nI_add, nI_1, pk_mul, nI_clamp, c_si, nI_eq, nI_leI, nM_ne, nM_ne, xm_set] at *
            exact this
        clear ih
        rw [g_lk_s] at x138
        unfold g_lkS at x138
        generalize eb : g_lk (cG P I L) bits k = best at b9 x138 ⊢
        by_cases f1 : nI (k + 1) &&& (bits ^^^ nM) = nI 0
        · have d2 : nI (k + 1) &&& (bits ^^^ Int32.ofInt (-1)) = 0 := f1
          rw [if_neg (fun z => z f1)] at x138
          by_cases f2 : ¬ best = nI 0 ∧ t_ones best ≤ t_ones (nI (k + 1))
          · rw [if_pos f2] at x138
            have x138 := x138 best o o' rfl ho ho'
            have d3 : ¬ best = 0 := f2.1
            have d4 : ¬ t_ones (nI (k + 1)) < t_ones best := Int32.not_lt.mpr f2.2
            rcases ho with rfl | ⟨z, rfl⟩
            all_goals rcases ho' with rfl | ⟨z', rfl⟩
            all_goals
              refine hG _ _ _ _ _ _ ?_
              (conv => whnf)
              repeat' (first
                | ((with_reducible refine @And.intro (vp_in _ _) _ ?_ ?_); (· (first | with_reducible assumption | ((with_reducible refine t_vin ?_); decide) | ((with_reducible refine vp_in_nI ?_ ?_) <;> first | omega | decide) | (simp (disch := omega) only [xl_n, xl_m, nI_dec, nI_sb, nI_add, pk_mul]; (with_reducible refine vp_in_nI ?_ ?_) <;> first | omega | decide))); (conv => whnf))
                | (refine And.intro (by first | with_reducible assumption | exact (show cL _ _ = _ from rfl) | decide) ?_; (conv => whnf))
                | ((with_reducible refine @And.intro (_ = _) _ ?_ ?_); (· rfl); (conv => whnf))
                | ((with_reducible refine @And.intro (@LE.le Nat _ _ _) _ ?_ ?_); (· (first | exact Nat.zero_le _ | exact Nat.le_of_ble_eq_true rfl | omega)); (conv => whnf))
                | ((with_reducible refine @And.intro (@LT.lt Nat _ _ _) _ ?_ ?_); (· omega); (conv => whnf))
                | ((with_reducible refine @And.intro (∃ _, _ = _) _ ?_ ?_); (· exact ⟨_, rfl⟩); (conv => whnf))
                | ((with_reducible refine @And.intro (_ ∨ _) _ ?_ ?_); (· (first | exact Or.inl rfl | exact Or.inr rfl | exact t_b01 _ | assumption)); (conv => whnf))
                | ((with_reducible refine @And.intro (¬ (_ = _)) _ ?_ ?_); (· first | assumption | (with_reducible assumption)); (conv => whnf))
                | (refine hX _ _ _ _ _ _ ?_; (conv => whnf); fail_if_success show False)
                | (rw [c_si]; (conv => whnf))
                | (refine ⟨_, rfl, ?_⟩; (conv => whnf))
                | (refine ⟨_, _, rfl, ?_⟩; (conv => whnf))
                | (refine ⟨_, _, _, rfl, ?_⟩; (conv => whnf))
                | (refine ⟨_, _, _, _, rfl, ?_⟩; (conv => whnf))
                | (refine ⟨nI (k+1),rfl,m9,?_⟩; (conv => whnf))
                | (refine ⟨best,rfl,b9,?_⟩; (conv => whnf))
                | (refine And.intro (fun c => ?_) (fun c => ?_) <;> (first | (exact absurd c (by decide +kernel)) | (exact absurd c (by assumption)) | (exact False.elim (c (by assumption))) | (conv => whnf)))
                | fail)
              exact x138
          · rw [if_neg f2] at x138
            have l67 : ∀ p, p ≤ c_p I → X 67 [some (.ref 0), some (.int (nI a)), some (.int bits), some (.int best), some (.int (nI (k + 1))), some (.int (g_lkN (cG P I L) (nI (k + 1)) p).2), some (.int (nI p))] [] (cW P Z I) 0 0 := by
              refine t_for fun p p1 jh => ?_
              by_cases hp : p = c_p I
              · subst hp
                have d5 : I 1 12 ≤ nI (c_p I) := by rw [hm]; exact Int32.le_refl _
                clear jh
                have an9 : t_m9 (t_or (c_h I) (fun h => decide (I (10 * 5) h = nI 1)) &&& ((g_lkN (cG P I L) (nI (k + 1)) (c_p I)).2 ^^^ nM)) := t_m9_an (t_or_m9 h9)
                have e1 : g_ndo (cK I L) (nI (k + 1)) = (g_lkN (cG P I L) (nI (k + 1)) (c_p I)).1 := (g_lkN_1 (G := cG P I L) (s := nI (k + 1)) (n := c_p I)).symm
                have ea : t_or (c_h I) (fun h => decide (I (10 * 5) h = nI 1)) = g_alive (gGK (cG P I L)) (gnow (cG P I L)) := c_al hi
                by_cases f3 : (g_lkN (cG P I L) (nI (k + 1)) (gm (gGK (cG P I L)))).1 ≤ t_ones (g_alive (gGK (cG P I L)) (gnow (cG P I L)) &&& ((g_lkN (cG P I L) (nI (k + 1)) (gm (gGK (cG P I L)))).2 ^^^ nM))
                · have d6 : g_ndo (cK I L) (nI (k + 1)) ≤ t_ones (t_or (c_h I) (fun h => decide (I (10 * 5) h = nI 1)) &&& ((g_lkN (cG P I L) (nI (k + 1)) (c_p I)).2 ^^^ nM)) := by
                    rw [e1, ea]
                    exact f3
                  rw [if_pos f3] at x138
                  have x138 := x138 best (some (.int (g_lkN (cG P I L) (nI (k + 1)) (c_p I)).2)) (some (.int (nI (c_p I)))) rfl (Or.inr ⟨_, rfl⟩) (Or.inr ⟨_, rfl⟩)
                  refine hG _ _ _ _ _ _ ?_
                  (conv => whnf)
                  repeat' (first
                    | ((with_reducible refine @And.intro (vp_in _ _) _ ?_ ?_); (· (first | with_reducible assumption | ((with_reducible refine t_vin ?_); decide) | ((with_reducible refine vp_in_nI ?_ ?_) <;> first | omega | decide) | (simp (disch := omega) only [xl_n, xl_m, nI_dec, nI_sb, nI_add, pk_mul]; (with_reducible refine vp_in_nI ?_ ?_) <;> first | omega | decide))); (conv => whnf))
                    | (refine And.intro (by first | with_reducible assumption | exact (show cL _ _ = _ from rfl) | decide) ?_; (conv => whnf))
                    | ((with_reducible refine @And.intro (_ = _) _ ?_ ?_); (· rfl); (conv => whnf))
                    | ((with_reducible refine @And.intro (@LE.le Nat _ _ _) _ ?_ ?_); (· (first | exact Nat.zero_le _ | exact Nat.le_of_ble_eq_true rfl | omega)); (conv => whnf))
                    | ((with_reducible refine @And.intro (@LT.lt Nat _ _ _) _ ?_ ?_); (· omega); (conv => whnf))
                    | ((with_reducible refine @And.intro (∃ _, _ = _) _ ?_ ?_); (· exact ⟨_, rfl⟩); (conv => whnf))
                    | ((with_reducible refine @And.intro (_ ∨ _) _ ?_ ?_); (· (first | exact Or.inl rfl | exact Or.inr rfl | exact t_b01 _ | assumption)); (conv => whnf))
                    | ((with_reducible refine @And.intro (¬ (_ = _)) _ ?_ ?_); (· first | assumption | (with_reducible assumption)); (conv => whnf))
                    | (refine hX _ _ _ _ _ _ ?_; (conv => whnf); fail_if_success show False)
                    | (rw [c_si]; (conv => whnf))
                    | (refine ⟨_, rfl, ?_⟩; (conv => whnf))
                    | (refine ⟨_, _, rfl, ?_⟩; (conv => whnf))
                    | (refine ⟨_, _, _, rfl, ?_⟩; (conv => whnf))
                    | (refine ⟨_, _, _, _, rfl, ?_⟩; (conv => whnf))
                    | (rw [xl_m]; (conv => whnf))
                    | (refine ⟨_,L,rfl,hok,?_⟩; (conv => whnf))
                    | (refine ⟨5,rfl,h5,hok,hi,?_⟩; (conv => whnf))
                    | (refine ⟨_,rfl,an9,?_⟩; (conv => whnf))
                    | (refine And.intro (fun c => ?_) (fun c => ?_) <;> (first | (exact absurd c (by decide +kernel)) | (exact absurd c (by assumption)) | (exact False.elim (c (by assumption))) | (conv => whnf)))
                    | fail)
                  exact x138
                · have d6 : ¬ g_ndo (cK I L) (nI (k + 1)) ≤ t_ones (t_or (c_h I) (fun h => decide (I (10 * 5) h = nI 1)) &&& ((g_lkN (cG P I L) (nI (k + 1)) (c_p I)).2 ^^^ nM)) := by
                    rw [e1, ea]
                    exact f3
                  rw [if_neg f3] at x138
                  have x138 := x138 (nI (k + 1)) (some (.int (g_lkN (cG P I L) (nI (k + 1)) (c_p I)).2)) (some (.int (nI (c_p I)))) rfl (Or.inr ⟨_, rfl⟩) (Or.inr ⟨_, rfl⟩)
                  refine hG _ _ _ _ _ _ ?_
                  (conv => whnf)
                  repeat' (first
                    | ((with_reducible refine @And.intro (vp_in _ _) _ ?_ ?_); (· (first | with_reducible assumption | ((with_reducible refine t_vin ?_); decide) | ((with_reducible refine vp_in_nI ?_ ?_) <;> first | omega | decide) | (simp (disch := omega) only [xl_n, xl_m, nI_dec, nI_sb, nI_add, pk_mul]; (with_reducible refine vp_in_nI ?_ ?_) <;> first | omega | decide))); (conv => whnf))
                    | (refine And.intro (by first | with_reducible assumption | exact (show cL _ _ = _ from rfl) | decide) ?_; (conv => whnf))
                    | ((with_reducible refine @And.intro (_ = _) _ ?_ ?_); (· rfl); (conv => whnf))
                    | ((with_reducible refine @And.intro (@LE.le Nat _ _ _) _ ?_ ?_); (· (first | exact Nat.zero_le _ | exact Nat.le_of_ble_eq_true rfl | omega)); (conv => whnf))
                    | ((with_reducible refine @And.intro (@LT.lt Nat _ _ _) _ ?_ ?_); (· omega); (conv => whnf))
                    | ((with_reducible refine @And.intro (∃ _, _ = _) _ ?_ ?_); (· exact ⟨_, rfl⟩); (conv => whnf))
                    | ((with_reducible refine @And.intro (_ ∨ _) _ ?_ ?_); (· (first | exact Or.inl rfl | exact Or.inr rfl | exact t_b01 _ | assumption)); (conv => whnf))
                    | ((with_reducible refine @And.intro (¬ (_ = _)) _ ?_ ?_); (· first | assumption | (with_reducible assumption)); (conv => whnf))
                    | (refine hX _ _ _ _ _ _ ?_; (conv => whnf); fail_if_success show False)
                    | (rw [c_si]; (conv => whnf))
                    | (refine ⟨_, rfl, ?_⟩; (conv => whnf))
                    | (refine ⟨_, _, rfl, ?_⟩; (conv => whnf))
                    | (refine ⟨_, _, _, rfl, ?_⟩; (conv => whnf))
                    | (refine ⟨_, _, _, _, rfl, ?_⟩; (conv => whnf))
                    | (rw [xl_m]; (conv => whnf))
                    | (refine ⟨_,L,rfl,hok,?_⟩; (conv => whnf))
                    | (refine ⟨5,rfl,h5,hok,hi,?_⟩; (conv => whnf))
                    | (refine ⟨_,rfl,an9,?_⟩; (conv => whnf))
                    | (refine And.intro (fun c => ?_) (fun c => ?_) <;> (first | (exact absurd c (by decide +kernel)) | (exact absurd c (by assumption)) | (exact False.elim (c (by assumption))) | (conv => whnf)))
                    | fail)
                  exact x138
              · have d5 : ¬ I 1 12 ≤ nI p := by
                  rw [hm, nI_leI (by omega) (by omega)]
                  omega
                have hpI : p < c_p I := by omega
                have nx := jh (p + 1) (by omega) (by omega)
                clear jh x138
                rw [g_lkN_s] at nx
                have x105 : ∀ z, z = (if t_has (nI (k + 1)) p = true then (g_lkN (cG P I L) (nI (k + 1)) p).2 &&& I 39 p else (g_lkN (cG P I L) (nI (k + 1)) p).2) → X 105 [some (.ref 0), some (.int (nI a)), some (.int bits), some (.int best), some (.int (nI (k + 1))), some (.int z), some (.int (nI p))] [] (cW P Z I) 0 0 := fun z hz => by
                  have e : z = (if t_has (nI (k + 1)) p = true then ((g_lkN (cG P I L) (nI (k + 1)) p).1 + gneeds (gGK (cG P I L)) p, (g_lkN (cG P I L) (nI (k + 1)) p).2 &&& gquar (gGK (cG P I L)) p) else g_lkN (cG P I L) (nI (k + 1)) p).2 := by
                    rw [hz, show gquar (gGK (cG P I L)) p = I 39 p from cK_quar hpI]
                    split <;> rfl
                  rw [← e] at nx
                  refine hG _ _ _ _ _ _ ?_
                  (conv => whnf)
                  repeat' (first
                    | ((with_reducible refine @And.intro (vp_in _ _) _ ?_ ?_); (· (first | with_reducible assumption | ((with_reducible refine t_vin ?_); decide) | ((with_reducible refine vp_in_nI ?_ ?_) <;> first | omega | decide) | (simp (disch := omega) only [xl_n, xl_m, nI_dec, nI_sb, nI_add, pk_mul]; (with_reducible refine vp_in_nI ?_ ?_) <;> first | omega | decide))); (conv => whnf))
                    | (refine And.intro (by first | with_reducible assumption | exact (show cL _ _ = _ from rfl) | decide) ?_; (conv => whnf))
                    | ((with_reducible refine @And.intro (_ = _) _ ?_ ?_); (· rfl); (conv => whnf))
                    | ((with_reducible refine @And.intro (@LE.le Nat _ _ _) _ ?_ ?_); (· (first | exact Nat.zero_le _ | exact Nat.le_of_ble_eq_true rfl | omega)); (conv => whnf))
                    | ((with_reducible refine @And.intro (@LT.lt Nat _ _ _) _ ?_ ?_); (· omega); (conv => whnf))
                    | ((with_reducible refine @And.intro (∃ _, _ = _) _ ?_ ?_); (· exact ⟨_, rfl⟩); (conv => whnf))
                    | ((with_reducible refine @And.intro (_ ∨ _) _ ?_ ?_); (· (first | exact Or.inl rfl | exact Or.inr rfl | exact t_b01 _ | assumption)); (conv => whnf))
                    | ((with_reducible refine @And.intro (¬ (_ = _)) _ ?_ ?_); (· first | assumption | (with_reducible assumption)); (conv => whnf))
                    | (refine hX _ _ _ _ _ _ ?_; (conv => whnf); fail_if_success show False)
                    | (rw [c_si]; (conv => whnf))
                    | (refine ⟨_, rfl, ?_⟩; (conv => whnf))
                    | (refine ⟨_, _, rfl, ?_⟩; (conv => whnf))
                    | (refine ⟨_, _, _, rfl, ?_⟩; (conv => whnf))
                    | (refine ⟨_, _, _, _, rfl, ?_⟩; (conv => whnf))
                    | (refine And.intro (fun c => ?_) (fun c => ?_) <;> (first | (exact absurd c (by decide +kernel)) | (conv => whnf)))
                    | fail)
                  clear hX hG
                  simp (disch := omega) only [xl_n, xl_m, nI_dec, nI_sb, xl_0, xl_1, cW_i, Nat.add_zero, Nat.reduceAdd, Nat.reduceMul, t_bn0, t_bn1, Classical.not_not, t_lt, nI_add, nI_1, pk_mul, nI_clamp, c_si, nI_eq, nI_leI, nM_ne, nM_ne, xm_set] at *
                  exact nx
                clear nx
                have e39 : I 39 (nI p).toNatClampNeg = I 39 p := by rw [nI_clamp (by omega)]
                cases f4 : t_has (nI (k + 1)) p with
                | true =>
                  have d6 : (nI (k + 1) >>> (nI p &&& 31)) &&& Int32.ofInt 1 = Int32.ofInt 1 := of_decide_eq_true f4
                  have x105 := x105 _ (by rw [f4, if_pos rfl])
                  rw [← e39] at x105
                  refine hG _ _ _ _ _ _ ?_
                  (conv => whnf)
                  repeat' (first
                    | ((with_reducible refine @And.intro (vp_in _ _) _ ?_ ?_); (· (first | with_reducible assumption | ((with_reducible refine t_vin ?_); decide) | ((with_reducible refine vp_in_nI ?_ ?_) <;> first | omega | decide) | (simp (disch := omega) only [xl_n, xl_m, nI_dec, nI_sb, nI_add, pk_mul]; (with_reducible refine vp_in_nI ?_ ?_) <;> first | omega | decide))); (conv => whnf))
                    | (refine And.intro (by first | with_reducible assumption | exact (show cL _ _ = _ from rfl) | decide) ?_; (conv => whnf))
                    | ((with_reducible refine @And.intro (_ = _) _ ?_ ?_); (· rfl); (conv => whnf))
                    | ((with_reducible refine @And.intro (@LE.le Nat _ _ _) _ ?_ ?_); (· (first | exact Nat.zero_le _ | exact Nat.le_of_ble_eq_true rfl | omega)); (conv => whnf))
                    | ((with_reducible refine @And.intro (@LT.lt Nat _ _ _) _ ?_ ?_); (· omega); (conv => whnf))
                    | ((with_reducible refine @And.intro (∃ _, _ = _) _ ?_ ?_); (· exact ⟨_, rfl⟩); (conv => whnf))
                    | ((with_reducible refine @And.intro (_ ∨ _) _ ?_ ?_); (· (first | exact Or.inl rfl | exact Or.inr rfl | exact t_b01 _ | assumption)); (conv => whnf))
                    | ((with_reducible refine @And.intro (¬ (_ = _)) _ ?_ ?_); (· first | assumption | (with_reducible assumption)); (conv => whnf))
                    | (refine hX _ _ _ _ _ _ ?_; (conv => whnf); fail_if_success show False)
                    | (rw [c_si]; (conv => whnf))
                    | (refine ⟨_, rfl, ?_⟩; (conv => whnf))
                    | (refine ⟨_, _, rfl, ?_⟩; (conv => whnf))
                    | (refine ⟨_, _, _, rfl, ?_⟩; (conv => whnf))
                    | (refine ⟨_, _, _, _, rfl, ?_⟩; (conv => whnf))
                    | (refine And.intro (fun c => ?_) (fun c => ?_) <;> (first | (exact absurd c (by decide +kernel)) | (exact absurd c (by assumption)) | (exact False.elim (c (by assumption))) | (conv => whnf)))
                    | fail)
                  exact x105
                | false =>
                  have d6 : ¬ (nI (k + 1) >>> (nI p &&& 31)) &&& Int32.ofInt 1 = Int32.ofInt 1 := of_decide_eq_false f4
                  have x105 := x105 _ (by rw [f4, if_neg (by decide)])
                  refine hG _ _ _ _ _ _ ?_
                  (conv => whnf)
                  repeat' (first
                    | ((with_reducible refine @And.intro (vp_in _ _) _ ?_ ?_); (· (first | with_reducible assumption | ((with_reducible refine t_vin ?_); decide) | ((with_reducible refine vp_in_nI ?_ ?_) <;> first | omega | decide) | (simp (disch := omega) only [xl_n, xl_m, nI_dec, nI_sb, nI_add, pk_mul]; (with_reducible refine vp_in_nI ?_ ?_) <;> first | omega | decide))); (conv => whnf))
                    | (refine And.intro (by first | with_reducible assumption | exact (show cL _ _ = _ from rfl) | decide) ?_; (conv => whnf))
                    | ((with_reducible refine @And.intro (_ = _) _ ?_ ?_); (· rfl); (conv => whnf))
                    | ((with_reducible refine @And.intro (@LE.le Nat _ _ _) _ ?_ ?_); (· (first | exact Nat.zero_le _ | exact Nat.le_of_ble_eq_true rfl | omega)); (conv => whnf))
                    | ((with_reducible refine @And.intro (@LT.lt Nat _ _ _) _ ?_ ?_); (· omega); (conv => whnf))
                    | ((with_reducible refine @And.intro (∃ _, _ = _) _ ?_ ?_); (· exact ⟨_, rfl⟩); (conv => whnf))
                    | ((with_reducible refine @And.intro (_ ∨ _) _ ?_ ?_); (· (first | exact Or.inl rfl | exact Or.inr rfl | exact t_b01 _ | assumption)); (conv => whnf))
                    | ((with_reducible refine @And.intro (¬ (_ = _)) _ ?_ ?_); (· first | assumption | (with_reducible assumption)); (conv => whnf))
                    | (refine hX _ _ _ _ _ _ ?_; (conv => whnf); fail_if_success show False)
                    | (rw [c_si]; (conv => whnf))
                    | (refine ⟨_, rfl, ?_⟩; (conv => whnf))
                    | (refine ⟨_, _, rfl, ?_⟩; (conv => whnf))
                    | (refine ⟨_, _, _, rfl, ?_⟩; (conv => whnf))
                    | (refine ⟨_, _, _, _, rfl, ?_⟩; (conv => whnf))
                    | (refine And.intro (fun c => ?_) (fun c => ?_) <;> (first | (exact absurd c (by decide +kernel)) | (exact absurd c (by assumption)) | (exact False.elim (c (by assumption))) | (conv => whnf)))
                    | fail)
                  exact x105
            have fin := l67 0 (Nat.zero_le _)
            have e0 : (g_lkN (cG P I L) (nI (k + 1)) 0).2 = t_or (c_h I) (fun h => decide (I (10 * 5) h = nI 1)) := (c_al hi).symm
            rw [e0] at fin
            clear l67 x138
            by_cases f5 : best = nI 0
            · have d3 : best = 0 := f5
              rcases ho with rfl | ⟨z, rfl⟩
              all_goals rcases ho' with rfl | ⟨z', rfl⟩
              all_goals
                refine hG _ _ _ _ _ _ ?_
                (conv => whnf)
                repeat' (first
                  | ((with_reducible refine @And.intro (vp_in _ _) _ ?_ ?_); (· (first | with_reducible assumption | ((with_reducible refine t_vin ?_); decide) | ((with_reducible refine vp_in_nI ?_ ?_) <;> first | omega | decide) | (simp (disch := omega) only [xl_n, xl_m, nI_dec, nI_sb, nI_add, pk_mul]; (with_reducible refine vp_in_nI ?_ ?_) <;> first | omega | decide))); (conv => whnf))
                  | (refine And.intro (by first | with_reducible assumption | exact (show cL _ _ = _ from rfl) | decide) ?_; (conv => whnf))
                  | ((with_reducible refine @And.intro (_ = _) _ ?_ ?_); (· rfl); (conv => whnf))
                  | ((with_reducible refine @And.intro (@LE.le Nat _ _ _) _ ?_ ?_); (· (first | exact Nat.zero_le _ | exact Nat.le_of_ble_eq_true rfl | omega)); (conv => whnf))
                  | ((with_reducible refine @And.intro (@LT.lt Nat _ _ _) _ ?_ ?_); (· omega); (conv => whnf))
                  | ((with_reducible refine @And.intro (∃ _, _ = _) _ ?_ ?_); (· exact ⟨_, rfl⟩); (conv => whnf))
                  | ((with_reducible refine @And.intro (_ ∨ _) _ ?_ ?_); (· (first | exact Or.inl rfl | exact Or.inr rfl | exact t_b01 _ | assumption)); (conv => whnf))
                  | ((with_reducible refine @And.intro (¬ (_ = _)) _ ?_ ?_); (· first | assumption | (with_reducible assumption)); (conv => whnf))
                  | (refine hX _ _ _ _ _ _ ?_; (conv => whnf); fail_if_success show False)
                  | (rw [c_si]; (conv => whnf))
                  | (refine ⟨_, rfl, ?_⟩; (conv => whnf))
                  | (refine ⟨_, _, rfl, ?_⟩; (conv => whnf))
                  | (refine ⟨_, _, _, rfl, ?_⟩; (conv => whnf))
                  | (refine ⟨_, _, _, _, rfl, ?_⟩; (conv => whnf))
                  | (refine ⟨5,rfl,h5,hok,hi,?_⟩; (conv => whnf))
                  | (refine And.intro (fun c => ?_) (fun c => ?_) <;> (first | (exact absurd c (by decide +kernel)) | (exact absurd c (by assumption)) | (exact False.elim (c (by assumption))) | (conv => whnf)))
                  | fail)
                exact fin
            · have d3 : ¬ best = 0 := f5
              have d4 : t_ones (nI (k + 1)) < t_ones best := by
                rw [t_lt]
                exact fun z => f2 ⟨f5, z⟩
              rcases ho with rfl | ⟨z, rfl⟩
              all_goals rcases ho' with rfl | ⟨z', rfl⟩
              all_goals
                refine hG _ _ _ _ _ _ ?_
                (conv => whnf)
                repeat' (first
                  | ((with_reducible refine @And.intro (vp_in _ _) _ ?_ ?_); (· (first | with_reducible assumption | ((with_reducible refine t_vin ?_); decide) | ((with_reducible refine vp_in_nI ?_ ?_) <;> first | omega | decide) | (simp (disch := omega) only [xl_n, xl_m, nI_dec, nI_sb, nI_add, pk_mul]; (with_reducible refine vp_in_nI ?_ ?_) <;> first | omega | decide))); (conv => whnf))
                  | (refine And.intro (by first | with_reducible assumption | exact (show cL _ _ = _ from rfl) | decide) ?_; (conv => whnf))
                  | ((with_reducible refine @And.intro (_ = _) _ ?_ ?_); (· rfl); (conv => whnf))
                  | ((with_reducible refine @And.intro (@LE.le Nat _ _ _) _ ?_ ?_); (· (first | exact Nat.zero_le _ | exact Nat.le_of_ble_eq_true rfl | omega)); (conv => whnf))
                  | ((with_reducible refine @And.intro (@LT.lt Nat _ _ _) _ ?_ ?_); (· omega); (conv => whnf))
                  | ((with_reducible refine @And.intro (∃ _, _ = _) _ ?_ ?_); (· exact ⟨_, rfl⟩); (conv => whnf))
                  | ((with_reducible refine @And.intro (_ ∨ _) _ ?_ ?_); (· (first | exact Or.inl rfl | exact Or.inr rfl | exact t_b01 _ | assumption)); (conv => whnf))
                  | ((with_reducible refine @And.intro (¬ (_ = _)) _ ?_ ?_); (· first | assumption | (with_reducible assumption)); (conv => whnf))
                  | (refine hX _ _ _ _ _ _ ?_; (conv => whnf); fail_if_success show False)
                  | (rw [c_si]; (conv => whnf))
                  | (refine ⟨_, rfl, ?_⟩; (conv => whnf))
                  | (refine ⟨_, _, rfl, ?_⟩; (conv => whnf))
                  | (refine ⟨_, _, _, rfl, ?_⟩; (conv => whnf))
                  | (refine ⟨_, _, _, _, rfl, ?_⟩; (conv => whnf))
                  | (refine ⟨nI (k+1),rfl,m9,?_⟩; (conv => whnf))
                  | (refine ⟨best,rfl,b9,?_⟩; (conv => whnf))
                  | (refine ⟨5,rfl,h5,hok,hi,?_⟩; (conv => whnf))
                  | (refine And.intro (fun c => ?_) (fun c => ?_) <;> (first | (exact absurd c (by decide +kernel)) | (exact absurd c (by assumption)) | (exact False.elim (c (by assumption))) | (conv => whnf)))
                  | fail)
                exact fin
        · have d2 : ¬ nI (k + 1) &&& (bits ^^^ Int32.ofInt (-1)) = 0 := f1
          rw [if_pos f1] at x138
          have x138 := x138 best o o' rfl ho ho'
          rcases ho with rfl | ⟨z, rfl⟩
          all_goals rcases ho' with rfl | ⟨z', rfl⟩
          all_goals
            refine hG _ _ _ _ _ _ ?_
            (conv => whnf)
            repeat' (first
              | ((with_reducible refine @And.intro (vp_in _ _) _ ?_ ?_); (· (first | with_reducible assumption | ((with_reducible refine t_vin ?_); decide) | ((with_reducible refine vp_in_nI ?_ ?_) <;> first | omega | decide) | (simp (disch := omega) only [xl_n, xl_m, nI_dec, nI_sb, nI_add, pk_mul]; (with_reducible refine vp_in_nI ?_ ?_) <;> first | omega | decide))); (conv => whnf))
              | (refine And.intro (by first | with_reducible assumption | exact (show cL _ _ = _ from rfl) | decide) ?_; (conv => whnf))
              | ((with_reducible refine @And.intro (_ = _) _ ?_ ?_); (· rfl); (conv => whnf))
              | ((with_reducible refine @And.intro (@LE.le Nat _ _ _) _ ?_ ?_); (· (first | exact Nat.zero_le _ | exact Nat.le_of_ble_eq_true rfl | omega)); (conv => whnf))
              | ((with_reducible refine @And.intro (@LT.lt Nat _ _ _) _ ?_ ?_); (· omega); (conv => whnf))
              | ((with_reducible refine @And.intro (∃ _, _ = _) _ ?_ ?_); (· exact ⟨_, rfl⟩); (conv => whnf))
              | ((with_reducible refine @And.intro (_ ∨ _) _ ?_ ?_); (· (first | exact Or.inl rfl | exact Or.inr rfl | exact t_b01 _ | assumption)); (conv => whnf))
              | ((with_reducible refine @And.intro (¬ (_ = _)) _ ?_ ?_); (· first | assumption | (with_reducible assumption)); (conv => whnf))
              | (refine hX _ _ _ _ _ _ ?_; (conv => whnf); fail_if_success show False)
              | (rw [c_si]; (conv => whnf))
              | (refine ⟨_, rfl, ?_⟩; (conv => whnf))
              | (refine ⟨_, _, rfl, ?_⟩; (conv => whnf))
              | (refine ⟨_, _, _, rfl, ?_⟩; (conv => whnf))
              | (refine ⟨_, _, _, _, rfl, ?_⟩; (conv => whnf))
              | (refine And.intro (fun c => ?_) (fun c => ?_) <;> (first | (exact absurd c (by decide +kernel)) | (exact absurd c (by assumption)) | (exact False.elim (c (by assumption))) | (conv => whnf)))
              | fail)
            exact x138
    have fin := loop 0 (Nat.zero_le _) none none (Or.inl rfl) (Or.inl rfl)
    clear loop
    rw [hbe] at fin
    (conv => whnf)
    repeat' (first
      | ((with_reducible refine @And.intro (vp_in _ _) _ ?_ ?_); (· (first | with_reducible assumption | ((with_reducible refine t_vin ?_); decide) | ((with_reducible refine vp_in_nI ?_ ?_) <;> first | omega | decide) | (simp (disch := omega) only [xl_n, xl_m, nI_dec, nI_sb, nI_add, pk_mul]; (with_reducible refine vp_in_nI ?_ ?_) <;> first | omega | decide))); (conv => whnf))
      | (refine And.intro (by first | with_reducible assumption | exact (show cL _ _ = _ from rfl) | decide) ?_; (conv => whnf))
      | ((with_reducible refine @And.intro (_ = _) _ ?_ ?_); (· rfl); (conv => whnf))
      | ((with_reducible refine @And.intro (@LE.le Nat _ _ _) _ ?_ ?_); (· (first | exact Nat.zero_le _ | exact Nat.le_of_ble_eq_true rfl | omega)); (conv => whnf))
      | ((with_reducible refine @And.intro (@LT.lt Nat _ _ _) _ ?_ ?_); (· omega); (conv => whnf))
      | ((with_reducible refine @And.intro (∃ _, _ = _) _ ?_ ?_); (· exact ⟨_, rfl⟩); (conv => whnf))
      | ((with_reducible refine @And.intro (_ ∨ _) _ ?_ ?_); (· (first | exact Or.inl rfl | exact Or.inr rfl | exact t_b01 _ | assumption)); (conv => whnf))
      | ((with_reducible refine @And.intro (¬ (_ = _)) _ ?_ ?_); (· first | assumption | (with_reducible assumption)); (conv => whnf))
      | (refine hX _ _ _ _ _ _ ?_; (conv => whnf); fail_if_success show False)
      | (rw [c_si]; (conv => whnf))
      | (refine ⟨_, rfl, ?_⟩; (conv => whnf))
      | (refine ⟨_, _, rfl, ?_⟩; (conv => whnf))
      | (refine ⟨_, _, _, rfl, ?_⟩; (conv => whnf))
      | (refine ⟨_, _, _, _, rfl, ?_⟩; (conv => whnf))
      | (refine ⟨a,rfl,ha,hl,?_⟩; (conv => whnf))
      | (rw [c_ac ha h6]; (conv => whnf))
      | (refine And.intro (fun c => ?_) (fun c => ?_) <;> (first | (exact absurd c (by decide +kernel)) | (conv => whnf)))
      | fail)
    exact fin
  · exact c_ref0 hQ hg e hx n1_0
theorem ct_X1_lacking : xm_Ct cI yX1_lacking (ws_ yX1_lacking cX1_lacking 7 (some .int)) 8 1 6 S_X1_lacking := xm_enter (rt := 0) (init := false) (by decide +kernel) rfl (fun h => by cases h) (Or.inl ⟨rfl, rfl⟩) (oX1_lacking) body_X1_lacking
theorem cv_X1_lacking {own : String} {cc : ByteArray} {fr pc idx : Nat} (hdg : decode cc pc = .ok (.invokevirtual idx, 3)) (hl : xm_ml own idx yX1_lacking) (hfr : 8 < fr) : xm_CallOK cI own cc fr pc (pc + 3) 2 1 6 (xm_this 0 S_X1_lacking) := xm_callV 0 cI_good (ct_X1_lacking) hdg hl q1745 q1746 q116 q1747 rfl rfl (by decide +kernel) hfr (by decide)
