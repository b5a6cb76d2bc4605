/-! ===== the component: by the book, practise ===== -/
set_option maxRecDepth 100000
set_option maxHeartbeats 1500000
/-- the probe and what is kept of its works change -/
def c_rn (I J : tI) : Prop := ∀ b : Nat, b ≠ 2 → b ≠ 7 → ¬ (70 ≤ b ∧ b < 76) → b ≠ 20 → J b = I b
theorem c_rn.rf {I : tI} : c_rn I I := fun _ _ _ _ _ => rfl
theorem c_rn.tr {I J K : tI} (h : c_rn I J) (h2 : c_rn J K) : c_rn I K := fun b a c d e => (h2 b a c d e).trans (h b a c d e)
theorem c_sc.rn {I J : tI} (h : c_sc 7 I J) : c_rn I J := fun b a c d _ => h b a c (by omega)
theorem c_rn.ua {I : tI} {f : Nat → Int32} : c_rn I (c_ua I 20 f) := fun b _ _ _ h => funext fun j => if_neg h
theorem c_rn.K {I J : tI} {L : List lC} (h : c_rn I J) : cK J L = cK I L := cK_eq (h 1 (by omega) (by omega) (by omega) (by omega)) (fun b h1 h2 => h b (by omega) (by omega) (by omega) (by omega)) (by rw [h 0 (by omega) (by omega) (by omega) (by omega)]) (by rw [h 0 (by omega) (by omega) (by omega) (by omega)])
theorem c_rn.sp {I J : tI} (h : c_rn I J) : c_sp I J := ⟨fun b b0 hf => h b (fun e => hf (by subst e; unfold c_free; omega)) (fun e => hf (by subst e; unfold c_free; omega)) (fun e => hf (by unfold c_free; omega)) (fun e => hf (by subst e; unfold c_free; omega)), fun k _ _ _ => by rw [h 0 (by omega) (by omega) (by omega) (by omega)]⟩
theorem c_ts_ua {P : cP} {Z : cX} {I : tI} {L : List lC} {f : Nat → Int32} (h : c_ts P Z I 7 L) : c_ts P Z (c_ua I 20 f) 7 L := by
  have e : ∀ b : Nat, b ≠ 20 → c_ua I 20 f b = I b := fun b hb => funext fun j => if_neg hb
  obtain ⟨h1, h2, h3, h4, h5⟩ := h
  have eA : cA (c_ua I 20 f) 7 = cA I 7 := cA_eq (fun k hk => e _ (by omega)) (by rw [e 7 (by omega)])
  refine ⟨h1, ?_, fun k hk => ?_, by rw [eA]; exact h4, h5.eq fun a ha => e a (by omega)⟩
  · unfold c_ok c_h c_p at *
    rw [e 1 (by omega)]
    exact h2
  · unfold c_h at hk
    rw [e 1 (by omega)] at hk
    rw [eA, e (10 * 7) (by omega), e 31 (by omega), e 7 (by omega)]
    exact h3 k hk
/-- what was worked in the first years -/
def c_wk (J : tI) (K : gK) (T : gT) (n : Nat) : Prop := ∀ z, 1 ≤ z → z ≤ n → ∀ p, p < 8 → J 20 (8 * z + p) = gw (g_gos K z T) p
abbrev bX1_rightNow_0 : List xE := [(.aload_n 0, 1, 0, 0, 0), (.getfield 65, 4, 0, 7, 1), (.invokevirtual 98, 7, 0, 0, 9), (.astore_n 1, 8, 0, 0, 0), (.iconst 1, 9, 0, 0, 0), (.istore_n 2, 10, 0, 0, 0)]
abbrev bX1_rightNow_10 : List xE := [(.iload_n 2, 11, 0, 0, 0), (.bipush 60, 13, 0, 0, 0), (.if_icmp .gt 32, 16, 0, 45, 0), (.aload_n 1, 17, 0, 0, 0), (.invokevirtual 301, 20, 0, 1, 9), (.pop, 21, 0, 0, 0), (.aload_n 1, 22, 0, 0, 0), (.getfield 247, 25, 7, 1, 1), (.iconst 0, 26, 0, 0, 0), (.aload_n 0, 27, 0, 0, 0), (.getfield 89, 30, 0, 20, 1), (.bipush 8, 32, 0, 0, 0), (.iload_n 2, 33, 0, 0, 0), (.imul, 34, 0, 0, 0), (.bipush 8, 36, 0, 0, 0), (.invokestatic 192, 39, 0, 2, 9), (.iinc 2 1, 42, 0, 0, 0), (.goto (-32), 45, 0, 10, 0)]
abbrev bX1_rightNow_45 : List xE := [(.iconst 0, 46, 0, 0, 0), (.istore_n 2, 47, 0, 0, 0)]
abbrev bX1_rightNow_47 : List xE := [(.iload_n 2, 48, 0, 0, 0), (.aload_n 0, 49, 0, 0, 0), (.getfield 104, 52, 0, 11, 0), (.if_icmp .ge 53, 55, 0, 105, 0), (.aload_n 0, 56, 0, 0, 0), (.getfield 89, 59, 0, 20, 1), (.bipush 8, 61, 0, 0, 0), (.aload_n 0, 62, 0, 0, 0), (.getfield 47, 65, 0, 3, 1), (.iconst 3, 66, 0, 0, 0), (.iload_n 2, 67, 0, 0, 0), (.imul, 68, 0, 0, 0), (.iaload, 69, 0, 0, 0), (.imul, 70, 0, 0, 0), (.aload_n 0, 71, 0, 0, 0), (.getfield 47, 74, 0, 3, 1), (.iconst 3, 75, 0, 0, 0), (.iload_n 2, 76, 0, 0, 0), (.imul, 77, 0, 0, 0), (.iconst 1, 78, 0, 0, 0), (.iadd, 79, 0, 0, 0), (.iaload, 80, 0, 0, 0), (.iadd, 81, 0, 0, 0), (.iaload, 82, 0, 0, 0), (.aload_n 0, 83, 0, 0, 0), (.getfield 47, 86, 0, 3, 1), (.iconst 3, 87, 0, 0, 0), (.iload_n 2, 88, 0, 0, 0), (.imul, 89, 0, 0, 0), (.iconst 2, 90, 0, 0, 0), (.iadd, 91, 0, 0, 0), (.iaload, 92, 0, 0, 0), (.ishr, 93, 0, 0, 0), (.iconst 1, 94, 0, 0, 0), (.iand, 95, 0, 0, 0), (.iconst 1, 96, 0, 0, 0), (.if_icmp .ne 9, 99, 0, 105, 0), (.iinc 2 1, 102, 0, 0, 0), (.goto (-55), 105, 0, 47, 0)]
abbrev bX1_rightNow_105 : List xE := [(.iload_n 2, 106, 0, 0, 0), (.ireturn, 107, 0, 0, 0)]
abbrev kX1_rightNow : List (Nat × List xE) := [(0, bX1_rightNow_0), (10, bX1_rightNow_10), (45, bX1_rightNow_45), (47, bX1_rightNow_47), (105, bX1_rightNow_105)]
abbrev lX1_rightNow : List (Nat × Nat × Nat × xS) := [(1, 0, 0, xm_this 7 S_X10_begins), (1, 0, 0, xm_this 7 S_X10_goes), (5, 0, 0, S_acp)]
theorem oX1_rightNow_0  : xm_okb cI RX1 cX1_rightNow false 164 lX1_rightNow bX1_rightNow_0 0 := xo_0 dX1_rightNow_0 rfl trivial (xo_1 dX1_rightNow_1 rfl (xm_fg_of (Or.inl q726) (by decide) rfl (by decide) rfl rfl (Or.inl rfl) rfl) (xo_c rfl (cv_X10_begins dX1_rightNow_4 (Or.inl q699) (by decide)) (xo_0 dX1_rightNow_7 rfl trivial (xo_0 dX1_rightNow_8 rfl trivial (xo_0 dX1_rightNow_9 rfl trivial (xo_n))))))
theorem oX1_rightNow_10  : xm_okb cI RX1 cX1_rightNow false 164 lX1_rightNow bX1_rightNow_10 10 := xo_0 dX1_rightNow_10 rfl trivial (xo_0 dX1_rightNow_11 rfl (xo_bipush (by decide +kernel)) (xo_0 dX1_rightNow_13 rfl rfl (xo_0 dX1_rightNow_16 rfl trivial (xo_c rfl (cv_X10_goes dX1_rightNow_17 (Or.inl q872) (by decide)) (xo_0 dX1_rightNow_20 rfl trivial (xo_0 dX1_rightNow_21 rfl trivial (xo_1 dX1_rightNow_22 rfl (xm_fg_of (Or.inr ⟨_, q665⟩) (by decide) rfl (by decide) rfl rfl (Or.inl rfl) rfl) (xo_0 dX1_rightNow_25 rfl trivial (xo_0 dX1_rightNow_26 rfl trivial (xo_1 dX1_rightNow_27 rfl (xm_fg_of (Or.inl q739) (by decide) rfl (by decide) rfl rfl (Or.inl rfl) rfl) (xo_0 dX1_rightNow_30 rfl (xo_bipush (by decide +kernel)) (xo_0 dX1_rightNow_32 rfl trivial (xo_0 dX1_rightNow_33 rfl trivial (xo_0 dX1_rightNow_34 rfl (xo_bipush (by decide +kernel)) (xo_c rfl (xc_acp dX1_rightNow_36 q845 (by decide)) (xo_0 dX1_rightNow_39 rfl trivial (xo_0 dX1_rightNow_42 rfl rfl (xo_n))))))))))))))))))
theorem oX1_rightNow_45  : xm_okb cI RX1 cX1_rightNow false 164 lX1_rightNow bX1_rightNow_45 45 := xo_0 dX1_rightNow_45 rfl trivial (xo_0 dX1_rightNow_46 rfl trivial (xo_n))
theorem oX1_rightNow_47  : xm_okb cI RX1 cX1_rightNow false 164 lX1_rightNow bX1_rightNow_47 47 := xo_0 dX1_rightNow_47 rfl trivial (xo_0 dX1_rightNow_48 rfl trivial (xo_0 dX1_rightNow_49 rfl (xm_fg_of (Or.inl q730) (by decide) rfl (by decide) rfl rfl (Or.inl rfl) rfl) (xo_0 dX1_rightNow_52 rfl rfl (xo_0 dX1_rightNow_55 rfl trivial (xo_1 dX1_rightNow_56 rfl (xm_fg_of (Or.inl q739) (by decide) rfl (by decide) rfl rfl (Or.inl rfl) rfl) (xo_0 dX1_rightNow_59 rfl (xo_bipush (by decide +kernel)) (xo_0 dX1_rightNow_61 rfl trivial (xo_1 dX1_rightNow_62 rfl (xm_fg_of (Or.inl q722) (by decide) rfl (by decide) rfl rfl (Or.inl rfl) rfl) (xo_0 dX1_rightNow_65 rfl trivial (xo_0 dX1_rightNow_66 rfl trivial (xo_0 dX1_rightNow_67 rfl trivial (xo_0 dX1_rightNow_68 rfl trivial (xo_0 dX1_rightNow_69 rfl trivial (xo_0 dX1_rightNow_70 rfl trivial (xo_1 dX1_rightNow_71 rfl (xm_fg_of (Or.inl q722) (by decide) rfl (by decide) rfl rfl (Or.inl rfl) rfl) (xo_0 dX1_rightNow_74 rfl trivial (xo_0 dX1_rightNow_75 rfl trivial (xo_0 dX1_rightNow_76 rfl trivial (xo_0 dX1_rightNow_77 rfl trivial (xo_0 dX1_rightNow_78 rfl trivial (xo_0 dX1_rightNow_79 rfl trivial (xo_0 dX1_rightNow_80 rfl trivial (xo_0 dX1_rightNow_81 rfl trivial (xo_0 dX1_rightNow_82 rfl trivial (xo_1 dX1_rightNow_83 rfl (xm_fg_of (Or.inl q722) (by decide) rfl (by decide) rfl rfl (Or.inl rfl) rfl) (xo_0 dX1_rightNow_86 rfl trivial (xo_0 dX1_rightNow_87 rfl trivial (xo_0 dX1_rightNow_88 rfl trivial (xo_0 dX1_rightNow_89 rfl trivial (xo_0 dX1_rightNow_90 rfl trivial (xo_0 dX1_rightNow_91 rfl trivial (xo_0 dX1_rightNow_92 rfl trivial (xo_0 dX1_rightNow_93 rfl trivial (xo_0 dX1_rightNow_94 rfl trivial (xo_0 dX1_rightNow_95 rfl trivial (xo_0 dX1_rightNow_96 rfl rfl (xo_0 dX1_rightNow_99 rfl trivial (xo_0 dX1_rightNow_102 rfl rfl (xo_n)))))))))))))))))))))))))))))))))))))))
theorem oX1_rightNow_105  : xm_okb cI RX1 cX1_rightNow false 164 lX1_rightNow bX1_rightNow_105 105 := xo_0 dX1_rightNow_105 rfl trivial (xo_0 dX1_rightNow_106 rfl trivial (xo_n))
theorem oX1_rightNow  : ∀ q ∈ kX1_rightNow, xm_okb cI RX1 cX1_rightNow false 164 lX1_rightNow q.2 q.1 := by
  intro q hq
  simp only [List.mem_cons, List.not_mem_nil, or_false] at hq
  rcases hq with rfl | rfl | rfl | rfl | rfl
  · exact oX1_rightNow_0  
  · exact oX1_rightNow_10  
  · exact oX1_rightNow_45  
  · exact oX1_rightNow_47  
  · exact oX1_rightNow_105  
def S_X1_rightNow : xS := cU fun as P Z I Q QX => ∃ (L : List lC), as = [.ref 0] ∧ c_ok I ∧ c_lw P Z I L ∧ c_lnok I ∧ (∀ h, h < c_h I → nI 0 ≤ I 31 h) ∧ (∀ p, p < 8 → t_m9 (I 38 p)) ∧ ∀ J, c_rn I J → Q (some (.int (nI (g_right (cK I L) (cG P I L))))) J
theorem body_X1_rightNow : xm_Body 3 0 0 0 [] lX1_rightNow kX1_rightNow S_X1_rightNow := by
  intro X avs w Q QX hX0 hS
  have hG := xm_go [] hX0
  have hX := xm_go [10,47] hX0
  clear hX0
  obtain ⟨P, Z, I, rfl, L, rfl, hok, hlw, hln, hb, hm9, hQ⟩ := hS
  obtain ⟨hn, h9, hm, h8⟩ := id hok
  obtain ⟨l11, l12, hlin⟩ := id hln
  have h7 := c_7 (P := P)
  have l2 : ∀ J, c_rn I J → c_wk J (cK I L) (c_bT I) 60 → ∀ k, k ≤ c_l I → g_pre (g_lineok (cK I L) (cG P I L)) (c_l I - k) k = g_right (cK I L) (cG P I L) → X 47 [some (.ref 0), some (.ref 7), some (.int (nI k))] [] (cW P Z J) 0 0 := by
    intro J hJ hwk
    have j11 : J 0 11 = nI (c_l I) := by rw [hJ 0 (by omega) (by omega) (by omega) (by omega)]; exact l11
    have e3 : J 3 = I 3 := hJ 3 (by omega) (by omega) (by omega) (by omega)
    refine t_for fun k h1 ih hP => ?_
    have ih := fun q => ih (k + 1) (by omega) q
    refine hG _ _ _ _ _ _ ?_
    (conv => whnf)
    repeat' (first
      | ((with_reducible refine @And.intro (vp_in _ _) _ ?_ ?_); (· (first | with_reducible assumption | ((with_reducible refine t_vin ?_); decide) | ((with_reducible refine vp_in_nI ?_ ?_) <;> first | omega | decide) | (simp (disch := omega) only [xl_n, xl_m, nI_dec, nI_sb, nI_add, pk_mul]; (with_reducible refine vp_in_nI ?_ ?_) <;> first | omega | decide))); (conv => whnf))
      | (refine And.intro (by first | with_reducible assumption | exact (show cL _ _ = _ from rfl) | decide) ?_; (conv => whnf))
      | ((with_reducible refine @And.intro (_ = _) _ ?_ ?_); (· rfl); (conv => whnf))
      | ((with_reducible refine @And.intro (@LE.le Nat _ _ _) _ ?_ ?_); (· (first | exact Nat.zero_le _ | exact Nat.le_of_ble_eq_true rfl | omega)); (conv => whnf))
      | ((with_reducible refine @And.intro (@LT.lt Nat _ _ _) _ ?_ ?_); (· omega); (conv => whnf))
      | ((with_reducible refine @And.intro (∃ _, _ = _) _ ?_ ?_); (· exact ⟨_, rfl⟩); (conv => whnf))
      | ((with_reducible refine @And.intro (_ ∨ _) _ ?_ ?_); (· (first | exact Or.inl rfl | exact Or.inr rfl | exact t_b01 _ | assumption)); (conv => whnf))
      | ((with_reducible refine @And.intro (¬ (_ = _)) _ ?_ ?_); (· first | assumption | (with_reducible assumption)); (conv => whnf))
      | (refine hX _ _ _ _ _ _ ?_; (conv => whnf); fail_if_success show False)
      | (rw [c_si]; (conv => whnf))
      | (refine ⟨_, rfl, ?_⟩; (conv => whnf))
      | (refine ⟨_, _, rfl, ?_⟩; (conv => whnf))
      | (refine ⟨_, _, _, rfl, ?_⟩; (conv => whnf))
      | (refine ⟨_, _, _, _, rfl, ?_⟩; (conv => whnf))
      | fail)
    refine And.intro (fun c => ?_) (fun c => ?_) <;> (conv => whnf)
    · have : k = c_l I := Nat.le_antisymm h1 (t_kge j11 c (by omega) (by omega))
      subst this
      clear ih
      rw [Nat.sub_self] at hP
      have hP : c_l I = g_right (cK I L) (cG P I L) := hP
      rw [← hP] at hQ
      repeat' (first
        | ((with_reducible refine @And.intro (vp_in _ _) _ ?_ ?_); (· (first | with_reducible assumption | ((with_reducible refine t_vin ?_); decide) | ((with_reducible refine vp_in_nI ?_ ?_) <;> first | omega | decide) | (simp (disch := omega) only [xl_n, xl_m, nI_dec, nI_sb, nI_add, pk_mul]; (with_reducible refine vp_in_nI ?_ ?_) <;> first | omega | decide))); (conv => whnf))
        | (refine And.intro (by first | with_reducible assumption | exact (show cL _ _ = _ from rfl) | decide) ?_; (conv => whnf))
        | ((with_reducible refine @And.intro (_ = _) _ ?_ ?_); (· rfl); (conv => whnf))
        | ((with_reducible refine @And.intro (@LE.le Nat _ _ _) _ ?_ ?_); (· (first | exact Nat.zero_le _ | exact Nat.le_of_ble_eq_true rfl | omega)); (conv => whnf))
        | ((with_reducible refine @And.intro (@LT.lt Nat _ _ _) _ ?_ ?_); (· omega); (conv => whnf))
        | ((with_reducible refine @And.intro (∃ _, _ = _) _ ?_ ?_); (· exact ⟨_, rfl⟩); (conv => whnf))
        | ((with_reducible refine @And.intro (_ ∨ _) _ ?_ ?_); (· (first | exact Or.inl rfl | exact Or.inr rfl | exact t_b01 _ | assumption)); (conv => whnf))
        | ((with_reducible refine @And.intro (¬ (_ = _)) _ ?_ ?_); (· first | assumption | (with_reducible assumption)); (conv => whnf))
        | (refine hX _ _ _ _ _ _ ?_; (conv => whnf); fail_if_success show False)
        | (rw [c_si]; (conv => whnf))
        | (refine ⟨_, rfl, ?_⟩; (conv => whnf))
        | (refine ⟨_, _, rfl, ?_⟩; (conv => whnf))
        | (refine ⟨_, _, _, rfl, ?_⟩; (conv => whnf))
        | (refine ⟨_, _, _, _, rfl, ?_⟩; (conv => whnf))
        | (refine And.intro (fun c => ?_) (fun c => ?_) <;> (first | (exact absurd c (by decide +kernel)) | (conv => whnf)))
        | fail)
      exact hQ J hJ
    · have hk : k < c_l I := t_klt j11 c (by omega)
      obtain ⟨p, h, y, hp, hh, y1, y60, i0, i1, i2⟩ := hlin k hk
      have ih := ih (by omega)
      rw [show c_l I - k = (c_l I - (k + 1)) + 1 by omega, g_pre_s] at hP
      have gl : ∀ i, i < 3 → gln (cG P I L) k i = I 3 (3 * k + i) := fun i hi => if_pos ⟨hk, hi⟩
      have eok : g_lineok (cK I L) (cG P I L) k = t_has (gw (g_gos (cK I L) y (c_bT I)) p) h := by
        unfold g_lineok g_lny
        rw [gl 0 (by omega), gl 1 (by omega), gl 2 (by omega), Nat.add_zero, i0, i1, i2, nI_clamp (by omega), nI_clamp (by omega), nI_clamp (by omega)]
        rfl
      have a0 : xm_fld (cW P Z J) 3 (Int32.ofInt 3 * nI k).toNatClampNeg 0 = .int (nI y) := by
        show Value.int (J 3 (Int32.ofInt 3 * nI k).toNatClampNeg) = _
        rw [show Int32.ofInt 3 = nI 3 by decide +kernel, pk_mul, nI_clamp (by omega), e3, i0]
      have a0b : (cW P Z J).2.1 3 (Int32.ofInt 3 * nI k).toNatClampNeg = nI y := Value.int.inj a0
      have a1 : xm_fld (cW P Z J) 3 (Int32.ofInt 3 * nI k + Int32.ofInt 1).toNatClampNeg 0 = .int (nI p) := by
        show Value.int (J 3 (Int32.ofInt 3 * nI k + Int32.ofInt 1).toNatClampNeg) = _
        rw [show Int32.ofInt 3 = nI 3 by decide +kernel, pk_mul, xl_n.2.1, nI_add, nI_clamp (by omega), e3, i1]
      have a1b : (cW P Z J).2.1 3 (Int32.ofInt 3 * nI k + Int32.ofInt 1).toNatClampNeg = nI p := Value.int.inj a1
      have a2 : xm_fld (cW P Z J) 3 (Int32.ofInt 3 * nI k + Int32.ofInt 2).toNatClampNeg 0 = .int (nI h) := by
        show Value.int (J 3 (Int32.ofInt 3 * nI k + Int32.ofInt 2).toNatClampNeg) = _
        rw [show Int32.ofInt 3 = nI 3 by decide +kernel, pk_mul, show Int32.ofInt 2 = nI 2 by decide +kernel, nI_add, nI_clamp (by omega), e3, i2]
      have a2b : (cW P Z J).2.1 3 (Int32.ofInt 3 * nI k + Int32.ofInt 2).toNatClampNeg = nI h := Value.int.inj a2
      have a3 : J 20 (Int32.ofInt 8 * nI y + nI p).toNatClampNeg = gw (g_gos (cK I L) y (c_bT I)) p := by
        rw [show Int32.ofInt 8 = nI 8 by decide +kernel, pk_mul, nI_add, nI_clamp (by omega)]
        exact hwk y y1 y60 p (by omega)
      cases q : g_lineok (cK I L) (cG P I L) k with
      | true =>
        rw [q, if_pos rfl] at hP
        rw [eok] at q
        have d1 : (J 20 (Int32.ofInt 8 * nI y + nI p).toNatClampNeg >>> (nI h &&& 31)) &&& Int32.ofInt 1 = Int32.ofInt 1 := by
          rw [a3]
          exact of_decide_eq_true q
        have ih := ih hP
        repeat' (first
          | ((with_reducible refine @And.intro (vp_in _ _) _ ?_ ?_); (· (first | with_reducible assumption | ((with_reducible refine t_vin ?_); decide) | ((with_reducible refine vp_in_nI ?_ ?_) <;> first | omega | decide) | (simp (disch := omega) only [xl_n, xl_m, nI_dec, nI_sb, nI_add, pk_mul]; (with_reducible refine vp_in_nI ?_ ?_) <;> first | omega | decide))); (conv => whnf))
          | (refine And.intro (by first | with_reducible assumption | exact (show cL _ _ = _ from rfl) | decide) ?_; (conv => whnf))
          | ((with_reducible refine @And.intro (_ = _) _ ?_ ?_); (· rfl); (conv => whnf))
          | ((with_reducible refine @And.intro (@LE.le Nat _ _ _) _ ?_ ?_); (· (first | exact Nat.zero_le _ | exact Nat.le_of_ble_eq_true rfl | omega)); (conv => whnf))
          | ((with_reducible refine @And.intro (@LT.lt Nat _ _ _) _ ?_ ?_); (· omega); (conv => whnf))
          | ((with_reducible refine @And.intro (∃ _, _ = _) _ ?_ ?_); (· exact ⟨_, rfl⟩); (conv => whnf))
          | ((with_reducible refine @And.intro (_ ∨ _) _ ?_ ?_); (· (first | exact Or.inl rfl | exact Or.inr rfl | exact t_b01 _ | assumption)); (conv => whnf))
          | ((with_reducible refine @And.intro (¬ (_ = _)) _ ?_ ?_); (· first | assumption | (with_reducible assumption)); (conv => whnf))
          | (refine hX _ _ _ _ _ _ ?_; (conv => whnf); fail_if_success show False)
          | (rw [c_si]; (conv => whnf))
          | (refine ⟨_, rfl, ?_⟩; (conv => whnf))
          | (refine ⟨_, _, rfl, ?_⟩; (conv => whnf))
          | (refine ⟨_, _, _, rfl, ?_⟩; (conv => whnf))
          | (refine ⟨_, _, _, _, rfl, ?_⟩; (conv => whnf))
          | (rw [a0]; (conv => whnf))
          | (rw [a0b]; (conv => whnf))
          | (rw [a1]; (conv => whnf))
          | (rw [a1b]; (conv => whnf))
          | (rw [a2]; (conv => whnf))
          | (rw [a2b]; (conv => whnf))
          | (refine And.intro (fun c => ?_) (fun c => ?_) <;> (first | (exact absurd c (by decide +kernel)) | (exact absurd c (by assumption)) | (exact False.elim (c (by assumption))) | (conv => whnf)))
          | fail)
        clear hX hG hQ
        simp (disch := omega) only [xl_n, xl_m, nI_dec, nI_sb, xl_0, xl_1, cW_i, Nat.add_zero, Nat.reduceAdd, Nat.reduceMul, t_bn0, t_bn1, Classical.not_not, t_lt, nI_add, nI_1, pk_mul, nI_clamp, c_si, nI_eq, nI_leI, nM_ne, nM_ne, xm_set, xm_lv0, xm_psh] at *
        exact ih
      | false =>
        rw [q, if_neg (by decide)] at hP
        rw [eok] at q
        have d1 : ¬ (J 20 (Int32.ofInt 8 * nI y + nI p).toNatClampNeg >>> (nI h &&& 31)) &&& Int32.ofInt 1 = Int32.ofInt 1 := by
          rw [a3]
          exact of_decide_eq_false q
        clear ih
        rw [← hP] at hQ
        repeat' (first
          | ((with_reducible refine @And.intro (vp_in _ _) _ ?_ ?_); (· (first | with_reducible assumption | ((with_reducible refine t_vin ?_); decide) | ((with_reducible refine vp_in_nI ?_ ?_) <;> first | omega | decide) | (simp (disch := omega) only [xl_n, xl_m, nI_dec, nI_sb, nI_add, pk_mul]; (with_reducible refine vp_in_nI ?_ ?_) <;> first | omega | decide))); (conv => whnf))
          | (refine And.intro (by first | with_reducible assumption | exact (show cL _ _ = _ from rfl) | decide) ?_; (conv => whnf))
          | ((with_reducible refine @And.intro (_ = _) _ ?_ ?_); (· rfl); (conv => whnf))
          | ((with_reducible refine @And.intro (@LE.le Nat _ _ _) _ ?_ ?_); (· (first | exact Nat.zero_le _ | exact Nat.le_of_ble_eq_true rfl | omega)); (conv => whnf))
          | ((with_reducible refine @And.intro (@LT.lt Nat _ _ _) _ ?_ ?_); (· omega); (conv => whnf))
          | ((with_reducible refine @And.intro (∃ _, _ = _) _ ?_ ?_); (· exact ⟨_, rfl⟩); (conv => whnf))
          | ((with_reducible refine @And.intro (_ ∨ _) _ ?_ ?_); (· (first | exact Or.inl rfl | exact Or.inr rfl | exact t_b01 _ | assumption)); (conv => whnf))
          | ((with_reducible refine @And.intro (¬ (_ = _)) _ ?_ ?_); (· first | assumption | (with_reducible assumption)); (conv => whnf))
          | (refine hX _ _ _ _ _ _ ?_; (conv => whnf); fail_if_success show False)
          | (rw [c_si]; (conv => whnf))
          | (refine ⟨_, rfl, ?_⟩; (conv => whnf))
          | (refine ⟨_, _, rfl, ?_⟩; (conv => whnf))
          | (refine ⟨_, _, _, rfl, ?_⟩; (conv => whnf))
          | (refine ⟨_, _, _, _, rfl, ?_⟩; (conv => whnf))
          | (rw [a0]; (conv => whnf))
          | (rw [a0b]; (conv => whnf))
          | (rw [a1]; (conv => whnf))
          | (rw [a1b]; (conv => whnf))
          | (rw [a2]; (conv => whnf))
          | (rw [a2b]; (conv => whnf))
          | (refine And.intro (fun c => ?_) (fun c => ?_) <;> (first | (exact absurd c (by decide +kernel)) | (exact absurd c (by assumption)) | (exact False.elim (c (by assumption))) | (conv => whnf)))
          | fail)
        exact hQ J hJ
  have l1 : ∀ k, k ≤ 60 → ∀ J, c_rn I J → c_ts P Z J 7 L → J 7 6 = nI k → cA J 7 = g_gos (cK I L) k (c_bT I) → c_wk J (cK I L) (c_bT I) k → X 10 [some (.ref 0), some (.ref 7), some (.int (nI (k + 1)))] [] (cW P Z J) 0 0 := by
    refine t_for fun k h1 ih J hJ tJ yJ eJ hwk => ?_
    have ih := fun q => ih (k + 1) (by omega) q
    by_cases hk : k = 60
    · subst hk
      have d1 : Int32.ofInt 60 < nI (60 + 1) := by decide +kernel
      have fin := l2 J hJ hwk 0 (Nat.zero_le _) rfl
      clear l2 ih
      refine hG _ _ _ _ _ _ ?_
      (conv => whnf)
      repeat' (first
        | ((with_reducible refine @And.intro (vp_in _ _) _ ?_ ?_); (· (first | with_reducible assumption | ((with_reducible refine t_vin ?_); decide) | ((with_reducible refine vp_in_nI ?_ ?_) <;> first | omega | decide) | (simp (disch := omega) only [xl_n, xl_m, nI_dec, nI_sb, nI_add, pk_mul]; (with_reducible refine vp_in_nI ?_ ?_) <;> first | omega | decide))); (conv => whnf))
        | (refine And.intro (by first | with_reducible assumption | exact (show cL _ _ = _ from rfl) | decide) ?_; (conv => whnf))
        | ((with_reducible refine @And.intro (_ = _) _ ?_ ?_); (· rfl); (conv => whnf))
        | ((with_reducible refine @And.intro (@LE.le Nat _ _ _) _ ?_ ?_); (· (first | exact Nat.zero_le _ | exact Nat.le_of_ble_eq_true rfl | omega)); (conv => whnf))
        | ((with_reducible refine @And.intro (@LT.lt Nat _ _ _) _ ?_ ?_); (· omega); (conv => whnf))
        | ((with_reducible refine @And.intro (∃ _, _ = _) _ ?_ ?_); (· exact ⟨_, rfl⟩); (conv => whnf))
        | ((with_reducible refine @And.intro (_ ∨ _) _ ?_ ?_); (· (first | exact Or.inl rfl | exact Or.inr rfl | exact t_b01 _ | assumption)); (conv => whnf))
        | ((with_reducible refine @And.intro (¬ (_ = _)) _ ?_ ?_); (· first | assumption | (with_reducible assumption)); (conv => whnf))
        | (refine hX _ _ _ _ _ _ ?_; (conv => whnf); fail_if_success show False)
        | (rw [c_si]; (conv => whnf))
        | (refine ⟨_, rfl, ?_⟩; (conv => whnf))
        | (refine ⟨_, _, rfl, ?_⟩; (conv => whnf))
        | (refine ⟨_, _, _, rfl, ?_⟩; (conv => whnf))
        | (refine ⟨_, _, _, _, rfl, ?_⟩; (conv => whnf))
        | (refine And.intro (fun c => ?_) (fun c => ?_) <;> (first | (exact absurd c (by decide +kernel)) | (exact absurd c (by assumption)) | (exact False.elim (c (by assumption))) | (conv => whnf)))
        | fail)
      clear hX hG hQ
      simp (disch := omega) only [xl_n, xl_m, nI_dec, nI_sb, xl_0, xl_1, cW_i, Nat.add_zero, Nat.reduceAdd, Nat.reduceMul, t_bn0, t_bn1, Classical.not_not, t_lt, nI_add, nI_1, pk_mul, nI_clamp, c_si, nI_eq, nI_leI, nM_ne, nM_ne, xm_set, xm_lv0, xm_psh] at *
      exact fin
    · have d1 : ¬ Int32.ofInt 60 < nI (k + 1) := by
        rw [show Int32.ofInt 60 = nI 60 by decide +kernel, t_lt, nI_leI (by omega) (by omega)]
        omega
      have ih := ih (by omega)
      have hk1 : k < 100000 := by omega
      clear l2
      refine hG _ _ _ _ _ _ ?_
      (conv => whnf)
      repeat' (first
        | ((with_reducible refine @And.intro (vp_in _ _) _ ?_ ?_); (· (first | with_reducible assumption | ((with_reducible refine t_vin ?_); decide) | ((with_reducible refine vp_in_nI ?_ ?_) <;> first | omega | decide) | (simp (disch := omega) only [xl_n, xl_m, nI_dec, nI_sb, nI_add, pk_mul]; (with_reducible refine vp_in_nI ?_ ?_) <;> first | omega | decide))); (conv => whnf))
        | (refine And.intro (by first | with_reducible assumption | exact (show cL _ _ = _ from rfl) | decide) ?_; (conv => whnf))
        | ((with_reducible refine @And.intro (_ = _) _ ?_ ?_); (· rfl); (conv => whnf))
        | ((with_reducible refine @And.intro (@LE.le Nat _ _ _) _ ?_ ?_); (· (first | exact Nat.zero_le _ | exact Nat.le_of_ble_eq_true rfl | omega)); (conv => whnf))
        | ((with_reducible refine @And.intro (@LT.lt Nat _ _ _) _ ?_ ?_); (· omega); (conv => whnf))
        | ((with_reducible refine @And.intro (∃ _, _ = _) _ ?_ ?_); (· exact ⟨_, rfl⟩); (conv => whnf))
        | ((with_reducible refine @And.intro (_ ∨ _) _ ?_ ?_); (· (first | exact Or.inl rfl | exact Or.inr rfl | exact t_b01 _ | assumption)); (conv => whnf))
        | ((with_reducible refine @And.intro (¬ (_ = _)) _ ?_ ?_); (· first | assumption | (with_reducible assumption)); (conv => whnf))
        | (refine hX _ _ _ _ _ _ ?_; (conv => whnf); fail_if_success show False)
        | (rw [c_si]; (conv => whnf))
        | (refine ⟨_, rfl, ?_⟩; (conv => whnf))
        | (refine ⟨_, _, rfl, ?_⟩; (conv => whnf))
        | (refine ⟨_, _, _, rfl, ?_⟩; (conv => whnf))
        | (refine ⟨_, _, _, _, rfl, ?_⟩; (conv => whnf))
        | (refine ⟨7,L,k,rfl,tJ,yJ,hk1,?_⟩; (conv => whnf))
        | (rw [c_tl h7]; (conv => whnf))
        | (rw [c_t7 h7]; (conv => whnf))
        | (rw [c_tf h7 (by decide)]; (conv => whnf))
        | (rw [c_t0 h7]; (conv => whnf))
        | (rw [c_t1 h7]; (conv => whnf))
        | (rw [c_t2 h7]; (conv => whnf))
        | (rw [c_t3 h7]; (conv => whnf))
        | (rw [c_t4 h7]; (conv => whnf))
        | (rw [c_t5 h7]; (conv => whnf))
        | (refine And.intro ⟨_, c_tl h7⟩ ?_; (conv => whnf))
        | (refine And.intro (fun c => ?_) (fun c => ?_) <;> (first | (exact absurd c (by decide +kernel)) | (exact absurd c (by assumption)) | (exact False.elim (c (by assumption))) | (conv => whnf)))
        | fail)
      intro K hK tK eK
      rw [hJ.K, eJ] at eK
      have eK : cA K 7 = g_gos (cK I L) (k + 1) (c_bT I) := eK
      have spK := hJ.tr hK.rn
      have yK : K 7 6 = nI (k + 1) := by
        rw [← cA_gy (I := K) (r := 7), eK, gy_gos _ _ (n := 0) rfl, Nat.zero_add]
      have e20 : K 20 = J 20 := hK 20 (by omega) (by omega) (by omega)
      have em : Int32.ofInt 8 * nI (k + 1) = nI (8 * (k + 1)) := by rw [show Int32.ofInt 8 = nI 8 by decide +kernel, pk_mul]
      have hw1 : 0 + 8 ≤ 8 := by decide
      have hw2 : 8 * (k + 1) + 8 ≤ 488 := by omega
      have ih := ih (c_ua K 20 (va_cpy (K (10 * 7 + 1)) (K 20) 0 (8 * (k + 1)) 8)) (spK.tr c_rn.ua) (c_ts_ua tK) (by rw [← yK]; exact if_neg (by decide)) (by rw [← eK]; exact cA_eq (fun j hj => funext fun z => if_neg (by omega)) (if_neg (by decide))) (fun z z1 z2 p hp => by
        show (if (20 : Nat) = 20 then _ else _) = _
        rw [if_pos rfl]
        by_cases q : z = k + 1
        · subst q
          rw [pk_cpy_in (by omega) (by omega), ← eK, cA_gw hp]
          congr 1
          omega
        · show (if 8 * (k + 1) ≤ 8 * z + p ∧ 8 * z + p < 8 * (k + 1) + 8 then _ else K 20 (8 * z + p)) = _
          rw [if_neg (by omega), e20]
          exact hwk z z1 (by omega) p hp)
      (conv => whnf)
      repeat' (first
        | ((with_reducible refine @And.intro (vp_in _ _) _ ?_ ?_); (· (first | with_reducible assumption | ((with_reducible refine t_vin ?_); decide) | ((with_reducible refine vp_in_nI ?_ ?_) <;> first | omega | decide) | (simp (disch := omega) only [xl_n, xl_m, nI_dec, nI_sb, nI_add, pk_mul]; (with_reducible refine vp_in_nI ?_ ?_) <;> first | omega | decide))); (conv => whnf))
        | (refine And.intro (by first | with_reducible assumption | exact (show cL _ _ = _ from rfl) | decide) ?_; (conv => whnf))
        | ((with_reducible refine @And.intro (_ = _) _ ?_ ?_); (· rfl); (conv => whnf))
        | ((with_reducible refine @And.intro (@LE.le Nat _ _ _) _ ?_ ?_); (· (first | exact Nat.zero_le _ | exact Nat.le_of_ble_eq_true rfl | omega)); (conv => whnf))
        | ((with_reducible refine @And.intro (@LT.lt Nat _ _ _) _ ?_ ?_); (· omega); (conv => whnf))
        | ((with_reducible refine @And.intro (∃ _, _ = _) _ ?_ ?_); (· exact ⟨_, rfl⟩); (conv => whnf))
        | ((with_reducible refine @And.intro (_ ∨ _) _ ?_ ?_); (· (first | exact Or.inl rfl | exact Or.inr rfl | exact t_b01 _ | assumption)); (conv => whnf))
        | ((with_reducible refine @And.intro (¬ (_ = _)) _ ?_ ?_); (· first | assumption | (with_reducible assumption)); (conv => whnf))
        | (refine hX _ _ _ _ _ _ ?_; (conv => whnf); fail_if_success show False)
        | (rw [c_si]; (conv => whnf))
        | (refine ⟨_, rfl, ?_⟩; (conv => whnf))
        | (refine ⟨_, _, rfl, ?_⟩; (conv => whnf))
        | (refine ⟨_, _, _, rfl, ?_⟩; (conv => whnf))
        | (refine ⟨_, _, _, _, rfl, ?_⟩; (conv => whnf))
        | (refine ⟨10*7+1,20,0,8*(k+1),8,8,488,congrArg (fun z => [Value.ref (10*7+1),Value.int (nI 0),Value.ref 20,Value.int z,Value.int (nI 8)]) em,c_t1 h7,rfl,hw1,hw2,(by decide),(by decide),?_⟩; (conv => whnf))
        | (rw [c_sa]; (conv => whnf))
        | (rw [c_tl h7]; (conv => whnf))
        | (rw [c_t7 h7]; (conv => whnf))
        | (rw [c_tf h7 (by decide)]; (conv => whnf))
        | (rw [c_t0 h7]; (conv => whnf))
        | (rw [c_t1 h7]; (conv => whnf))
        | (rw [c_t2 h7]; (conv => whnf))
        | (rw [c_t3 h7]; (conv => whnf))
        | (rw [c_t4 h7]; (conv => whnf))
        | (rw [c_t5 h7]; (conv => whnf))
        | (refine And.intro ⟨_, c_tl h7⟩ ?_; (conv => whnf))
        | fail)
      clear hX hG hQ
      simp (disch := omega) only [xl_n, xl_m, nI_dec, nI_sb, xl_0, xl_1, cW_i, Nat.add_zero, Nat.reduceAdd, Nat.reduceMul, t_bn0, t_bn1, Classical.not_not, t_lt, nI_add, nI_1, pk_mul, nI_clamp, c_si, nI_eq, nI_leI, nM_ne, nM_ne, xm_set, xm_lv0, xm_psh] at *
      exact ih
  refine ⟨rfl, ?_⟩
  clear l2
  repeat' (first
    | ((with_reducible refine @And.intro (vp_in _ _) _ ?_ ?_); (· (first | with_reducible assumption | ((with_reducible refine t_vin ?_); decide) | ((with_reducible refine vp_in_nI ?_ ?_) <;> first | omega | decide) | (simp (disch := omega) only [xl_n, xl_m, nI_dec, nI_sb, nI_add, pk_mul]; (with_reducible refine vp_in_nI ?_ ?_) <;> first | omega | decide))); (conv => whnf))
    | (refine And.intro (by first | with_reducible assumption | exact (show cL _ _ = _ from rfl) | decide) ?_; (conv => whnf))
    | ((with_reducible refine @And.intro (_ = _) _ ?_ ?_); (· rfl); (conv => whnf))
    | ((with_reducible refine @And.intro (@LE.le Nat _ _ _) _ ?_ ?_); (· (first | exact Nat.zero_le _ | exact Nat.le_of_ble_eq_true rfl | omega)); (conv => whnf))
    | ((with_reducible refine @And.intro (@LT.lt Nat _ _ _) _ ?_ ?_); (· omega); (conv => whnf))
    | ((with_reducible refine @And.intro (∃ _, _ = _) _ ?_ ?_); (· exact ⟨_, rfl⟩); (conv => whnf))
    | ((with_reducible refine @And.intro (_ ∨ _) _ ?_ ?_); (· (first | exact Or.inl rfl | exact Or.inr rfl | exact t_b01 _ | assumption)); (conv => whnf))
    | ((with_reducible refine @And.intro (¬ (_ = _)) _ ?_ ?_); (· first | assumption | (with_reducible assumption)); (conv => whnf))
    | (refine hX _ _ _ _ _ _ ?_; (conv => whnf); fail_if_success show False)
    | (rw [c_si]; (conv => whnf))
    | (refine ⟨_, rfl, ?_⟩; (conv => whnf))
    | (refine ⟨_, _, rfl, ?_⟩; (conv => whnf))
    | (refine ⟨_, _, _, rfl, ?_⟩; (conv => whnf))
    | (refine ⟨_, _, _, _, rfl, ?_⟩; (conv => whnf))
    | (refine ⟨7,L,rfl,h7,hok,hlw,hb,hm9,?_⟩; (conv => whnf))
    | (rw [c_tl h7]; (conv => whnf))
    | (rw [c_t7 h7]; (conv => whnf))
    | (rw [c_tf h7 (by decide)]; (conv => whnf))
    | (rw [c_t0 h7]; (conv => whnf))
    | (rw [c_t1 h7]; (conv => whnf))
    | (rw [c_t2 h7]; (conv => whnf))
    | (rw [c_t3 h7]; (conv => whnf))
    | (rw [c_t4 h7]; (conv => whnf))
    | (rw [c_t5 h7]; (conv => whnf))
    | (refine And.intro ⟨_, c_tl h7⟩ ?_; (conv => whnf))
    | (refine And.intro (fun c => ?_) (fun c => ?_) <;> (first | (exact absurd c (by decide +kernel)) | (conv => whnf)))
    | fail)
  intro J hJ tJ eJ
  have fin := l1 0 (Nat.zero_le _) J hJ.rn tJ (by
    rw [← cA_gy (I := J) (r := 7), eJ]
    rfl) eJ (fun z z1 z2 => by omega)
  clear l1
  (conv => whnf)
  repeat' (first
    | ((with_reducible refine @And.intro (vp_in _ _) _ ?_ ?_); (· (first | with_reducible assumption | ((with_reducible refine t_vin ?_); decide) | ((with_reducible refine vp_in_nI ?_ ?_) <;> first | omega | decide) | (simp (disch := omega) only [xl_n, xl_m, nI_dec, nI_sb, nI_add, pk_mul]; (with_reducible refine vp_in_nI ?_ ?_) <;> first | omega | decide))); (conv => whnf))
    | (refine And.intro (by first | with_reducible assumption | exact (show cL _ _ = _ from rfl) | decide) ?_; (conv => whnf))
    | ((with_reducible refine @And.intro (_ = _) _ ?_ ?_); (· rfl); (conv => whnf))
    | ((with_reducible refine @And.intro (@LE.le Nat _ _ _) _ ?_ ?_); (· (first | exact Nat.zero_le _ | exact Nat.le_of_ble_eq_true rfl | omega)); (conv => whnf))
    | ((with_reducible refine @And.intro (@LT.lt Nat _ _ _) _ ?_ ?_); (· omega); (conv => whnf))
    | ((with_reducible refine @And.intro (∃ _, _ = _) _ ?_ ?_); (· exact ⟨_, rfl⟩); (conv => whnf))
    | ((with_reducible refine @And.intro (_ ∨ _) _ ?_ ?_); (· (first | exact Or.inl rfl | exact Or.inr rfl | exact t_b01 _ | assumption)); (conv => whnf))
    | ((with_reducible refine @And.intro (¬ (_ = _)) _ ?_ ?_); (· first | assumption | (with_reducible assumption)); (conv => whnf))
    | (refine hX _ _ _ _ _ _ ?_; (conv => whnf); fail_if_success show False)
    | (rw [c_si]; (conv => whnf))
    | (refine ⟨_, rfl, ?_⟩; (conv => whnf))
    | (refine ⟨_, _, rfl, ?_⟩; (conv => whnf))
    | (refine ⟨_, _, _, rfl, ?_⟩; (conv => whnf))
    | (refine ⟨_, _, _, _, rfl, ?_⟩; (conv => whnf))
    | (refine And.intro (fun c => ?_) (fun c => ?_) <;> (first | (exact absurd c (by decide +kernel)) | (conv => whnf)))
    | fail)
  exact fin
theorem ct_X1_rightNow : xm_Ct cI yX1_rightNow (ws_ yX1_rightNow cX1_rightNow 3 (some .int)) 164 0 0 S_X1_rightNow := xm_enter (rt := 0) (init := false) (by decide +kernel) rfl (fun h => by cases h) (Or.inl ⟨rfl, rfl⟩) (oX1_rightNow) body_X1_rightNow
theorem cv_X1_rightNow {own : String} {cc : ByteArray} {fr pc idx : Nat} (hdg : decode cc pc = .ok (.invokevirtual idx, 3)) (hl : xm_ml own idx yX1_rightNow) (hfr : 164 < fr) : xm_CallOK cI own cc fr pc (pc + 3) 1 0 0 (xm_this 0 S_X1_rightNow) := xm_callV 0 cI_good (ct_X1_rightNow) hdg hl q870 qs11 q116 q871 rfl rfl (by decide +kernel) hfr (by decide)
abbrev bX1_right_0 : List xE := [(.aload_n 0, 1, 0, 0, 0), (.invokevirtual 359, 4, 0, 0, 9), (.ireturn, 5, 0, 0, 0)]
abbrev kX1_right : List (Nat × List xE) := [(0, bX1_right_0)]
abbrev lX1_right : List (Nat × Nat × Nat × xS) := [(1, 0, 0, xm_this 0 S_X1_rightNow)]
theorem oX1_right_0  : xm_okb cI RX1 cX1_right false 165 lX1_right bX1_right_0 0 := xo_0 dX1_right_0 rfl trivial (xo_c rfl (cv_X1_rightNow dX1_right_1 (Or.inl q868) (by decide)) (xo_0 dX1_right_4 rfl trivial (xo_n)))
theorem oX1_right  : ∀ q ∈ kX1_right, xm_okb cI RX1 cX1_right false 165 lX1_right q.2 q.1 := by
  intro q hq
  simp only [List.mem_cons, List.not_mem_nil, or_false] at hq
  subst hq
  exact oX1_right_0  
def S_X1_right : xS := cU fun as P Z I Q QX => ∃ L, as = [.ref 0] ∧ c_good P Z I L ∧ g_ok (cG P I L) ∧ g_w (gbeg (cG P I L)) ∧ c_P P Z L (cG P I L) Q QX (q_right (cG P I L))
theorem c_beg {P : cP} {I : tI} {L : List lC} (hk : g_ok (cG P I L)) (hw : g_w (gbeg (cG P I L))) : (∀ h, h < c_h I → nI 0 ≤ I 31 h) ∧ ∀ p, p < 8 → t_m9 (I 38 p) := by
  refine ⟨fun h hh => ?_, fun p hp => ?_⟩
  · obtain ⟨n, hn, e⟩ := (hk.1.2.1 h hh).2.1
    have e : gborn (cK I L) h = nI n := e
    rw [cK_born hh] at e
    rw [e]
    exact (nI_leI (by omega) (by omega)).mpr (Nat.zero_le _)
  · have := (hw p).1
    have e : gw (gbeg (cG P I L)) p = I 38 p := if_pos hp
    rw [e] at this
    exact this
theorem body_X1_right : xm_Body 1 0 0 0 [] lX1_right kX1_right S_X1_right := by
  intro X avs w Q QX hX0 hS
  have hG := xm_go [] hX0
  have hX := xm_go [] hX0
  clear hX0
  obtain ⟨P, Z, I, rfl, L, rfl, hg, hk0, hw0, hQ⟩ := hS
  obtain ⟨b1, b2⟩ := c_beg hk0 hw0
  have hok := hg.ok
  have hlw := hg.lw
  have hln : c_lnok I := hg.2.2.2.2.2.2.1
  refine ⟨rfl, ?_⟩
  repeat' (first
    | ((with_reducible refine @And.intro (vp_in _ _) _ ?_ ?_); (· (first | with_reducible assumption | ((with_reducible refine t_vin ?_); decide) | ((with_reducible refine vp_in_nI ?_ ?_) <;> first | omega | decide) | (simp (disch := omega) only [xl_n, xl_m, nI_dec, nI_sb, nI_add, pk_mul]; (with_reducible refine vp_in_nI ?_ ?_) <;> first | omega | decide))); (conv => whnf))
    | (refine And.intro (by first | with_reducible assumption | exact (show cL _ _ = _ from rfl) | decide) ?_; (conv => whnf))
    | ((with_reducible refine @And.intro (_ = _) _ ?_ ?_); (· rfl); (conv => whnf))
    | ((with_reducible refine @And.intro (@LE.le Nat _ _ _) _ ?_ ?_); (· (first | exact Nat.zero_le _ | exact Nat.le_of_ble_eq_true rfl | omega)); (conv => whnf))
    | ((with_reducible refine @And.intro (@LT.lt Nat _ _ _) _ ?_ ?_); (· omega); (conv => whnf))
    | ((with_reducible refine @And.intro (∃ _, _ = _) _ ?_ ?_); (· exact ⟨_, rfl⟩); (conv => whnf))
    | ((with_reducible refine @And.intro (_ ∨ _) _ ?_ ?_); (· (first | exact Or.inl rfl | exact Or.inr rfl | exact t_b01 _ | assumption)); (conv => whnf))
    | ((with_reducible refine @And.intro (¬ (_ = _)) _ ?_ ?_); (· first | assumption | (with_reducible assumption)); (conv => whnf))
    | (refine hX _ _ _ _ _ _ ?_; (conv => whnf); fail_if_success show False)
    | (rw [c_si]; (conv => whnf))
    | (refine ⟨_, rfl, ?_⟩; (conv => whnf))
    | (refine ⟨_, _, rfl, ?_⟩; (conv => whnf))
    | (refine ⟨_, _, _, rfl, ?_⟩; (conv => whnf))
    | (refine ⟨_, _, _, _, rfl, ?_⟩; (conv => whnf))
    | (refine ⟨L,rfl,hok,hlw,hln,b1,b2,?_⟩; (conv => whnf))
    | (refine And.intro (fun c => ?_) (fun c => ?_) <;> (first | (exact absurd c (by decide +kernel)) | (conv => whnf)))
    | fail)
  intro J hJ
  (conv => whnf)
  repeat' (first
    | ((with_reducible refine @And.intro (vp_in _ _) _ ?_ ?_); (· (first | with_reducible assumption | ((with_reducible refine t_vin ?_); decide) | ((with_reducible refine vp_in_nI ?_ ?_) <;> first | omega | decide) | (simp (disch := omega) only [xl_n, xl_m, nI_dec, nI_sb, nI_add, pk_mul]; (with_reducible refine vp_in_nI ?_ ?_) <;> first | omega | decide))); (conv => whnf))
    | (refine And.intro (by first | with_reducible assumption | exact (show cL _ _ = _ from rfl) | decide) ?_; (conv => whnf))
    | ((with_reducible refine @And.intro (_ = _) _ ?_ ?_); (· rfl); (conv => whnf))
    | ((with_reducible refine @And.intro (@LE.le Nat _ _ _) _ ?_ ?_); (· (first | exact Nat.zero_le _ | exact Nat.le_of_ble_eq_true rfl | omega)); (conv => whnf))
    | ((with_reducible refine @And.intro (@LT.lt Nat _ _ _) _ ?_ ?_); (· omega); (conv => whnf))
    | ((with_reducible refine @And.intro (∃ _, _ = _) _ ?_ ?_); (· exact ⟨_, rfl⟩); (conv => whnf))
    | ((with_reducible refine @And.intro (_ ∨ _) _ ?_ ?_); (· (first | exact Or.inl rfl | exact Or.inr rfl | exact t_b01 _ | assumption)); (conv => whnf))
    | ((with_reducible refine @And.intro (¬ (_ = _)) _ ?_ ?_); (· first | assumption | (with_reducible assumption)); (conv => whnf))
    | (refine hX _ _ _ _ _ _ ?_; (conv => whnf); fail_if_success show False)
    | (rw [c_si]; (conv => whnf))
    | (refine ⟨_, rfl, ?_⟩; (conv => whnf))
    | (refine ⟨_, _, rfl, ?_⟩; (conv => whnf))
    | (refine ⟨_, _, _, rfl, ?_⟩; (conv => whnf))
    | (refine ⟨_, _, _, _, rfl, ?_⟩; (conv => whnf))
    | (refine And.intro (fun c => ?_) (fun c => ?_) <;> (first | (exact absurd c (by decide +kernel)) | (conv => whnf)))
    | fail)
  exact c_ask hQ hg hJ.sp rfl
theorem ct_X1_right : xm_Ct cI yX1_right (ws_ yX1_right cX1_right 1 (some .int)) 165 0 0 S_X1_right := xm_enter (rt := 0) (init := false) (by decide +kernel) rfl (fun h => by cases h) (Or.inl ⟨rfl, rfl⟩) (oX1_right) body_X1_right
theorem cv_X1_right {own : String} {cc : ByteArray} {fr pc idx : Nat} (hdg : decode cc pc = .ok (.invokevirtual idx, 3)) (hl : xm_ml own idx yX1_right) (hfr : 165 < fr) : xm_CallOK cI own cc fr pc (pc + 3) 1 0 0 (xm_this 0 S_X1_right) := xm_callV 0 cI_good (ct_X1_right) hdg hl q865 q866 q116 q867 rfl rfl (by decide +kernel) hfr (by decide)
/-! one limps otherwise -/
def c_s9 (I M : tI) : Prop := (∀ b, b ≠ 0 → ¬ c_free b → M b = I b) ∧ ∀ k, k ≠ 9 → k ≠ 10 → k ≠ 12 → k ≠ 19 → M 0 k = I 0 k
theorem c_s9.rf {I : tI} : c_s9 I I := ⟨fun _ _ _ => rfl, fun _ _ _ _ _ => rfl⟩
theorem c_s9.u {I M : tI} {k : Nat} {v : Int32} (h : c_s9 I M) (hk : k = 9 ∨ k = 10) : c_s9 I (xm_u2 M 0 k v) := ⟨fun b b0 hf => by rw [← h.1 b b0 hf]; exact funext fun j => xm_u2_ne b0 j, fun j h1 h2 h3 h4 => by rw [xm_u2_at, if_neg (by omega)]; exact h.2 j h1 h2 h3 h4⟩
theorem c_s9.st {I M N : tI} (h : c_s9 I M) (h2 : c_sp M N) : c_s9 I N := ⟨fun b b0 hf => (h2.1 b b0 hf).trans (h.1 b b0 hf), fun k a b c d => (h2.2 k b c d).trans (h.2 k a b c d)⟩
theorem c_s9.sp {I M : tI} (h : c_s9 I M) (h9 : I 0 9 = nM) : c_sp I (xm_u2 M 0 9 nM) := ⟨fun b b0 hf => by rw [← h.1 b b0 hf]; exact funext fun j => xm_u2_ne b0 j, fun j h1 h2 h3 => by
  rw [xm_u2_at]
  by_cases e : j = 9
  · rw [if_pos e, e, h9]
  · rw [if_neg e]
    exact h.2 j e h1 h2 h3⟩
theorem c_s9.f {I M : tI} (h : c_s9 I M) {b : Nat} (h1 : (b = 1 ∨ b = 3 ∨ b = 4 ∨ b = 5 ∨ b = 6 ∨ b = 16 ∨ (8 ≤ b ∧ b < 17) ∨ (30 ≤ b ∧ b < 70) ∨ 80 ≤ b)) : M b = I b := h.1 b (by omega) (by unfold c_free; omega)
theorem c_s9.K {I M : tI} {L : List lC} {h : Nat} {v : Int32} (hs : c_s9 I M) (e9 : M 0 9 = nI h) (e10 : M 0 10 = v) (hh : h < c_h I) (h9 : c_h I ≤ 9) (i9 : I 0 9 = nM) : cK M L = g_limpK (cK I L) h v := by
  have eh : c_h M = c_h I ∧ c_p M = c_p I := by
    unfold c_h c_p
    rw [hs.f (b := 1) (by omega)]
    exact ⟨rfl, rfl⟩
  unfold cK g_limpK
  rw [eh.1, eh.2, hs.f (b := 1) (by omega), hs.f (b := 31) (by omega), hs.f (b := 32) (by omega), hs.f (b := 35) (by omega), hs.f (b := 36) (by omega), hs.f (b := 39) (by omega)]
  have e : (fun k => if k < c_h I then c_limp M k else nI 0) = g_upd (fun k => if k < c_h I then c_limp I k else nI 0) h v := funext fun k => by
    show (if k < c_h I then c_limp M k else nI 0) = if k = h then v else if k < c_h I then c_limp I k else nI 0
    by_cases q : k < c_h I
    · rw [if_pos q, if_pos q]
      unfold c_limp
      rw [e9, e10, i9, hs.f (b := 30) (by omega)]
      by_cases z : k = h
      · rw [if_pos (by rw [z]), if_pos z]
      · rw [if_neg (by rw [nI_eq (by omega) (by omega)]; exact z), if_neg z, if_neg (nM_ne (by omega))]
    · rw [if_neg q, if_neg q, if_neg (by omega)]
  rw [e]
theorem c_s9.ok {I M : tI} (h : c_s9 I M) (hg : c_ok I) : c_ok M := by
  unfold c_ok c_h c_p at *
  rw [h.f (b := 1) (by omega)]
  exact hg
theorem c_s9.hp {I M : tI} (h : c_s9 I M) : c_h M = c_h I ∧ c_p M = c_p I := by
  unfold c_h c_p
  rw [h.f (b := 1) (by omega)]
  exact ⟨rfl, rfl⟩
theorem c_s9.ln {I M : tI} (h : c_s9 I M) (hg : c_lnok I) : c_lnok M := by
  have el : c_l M = c_l I := by unfold c_l; rw [h.2 11 (by omega) (by omega) (by omega) (by omega)]
  unfold c_lnok
  rw [el, h.2 11 (by omega) (by omega) (by omega) (by omega), h.hp.1, h.hp.2, h.f (b := 3) (by omega)]
  exact hg
theorem c_s9.N {P : cP} {Z : cX} {I M : tI} {L : List lC} (h : c_s9 I M) (hg : c_good P Z I L) : cN M = cN I := by
  have e := (h.sp hg.2.2.2.2.1).N hg
  rw [← e]
  have f : ∀ b : Nat, b ≠ 0 → xm_u2 M 0 9 nM b = M b := fun b hb => funext fun j => xm_u2_ne hb j
  have f0 : ∀ k : Nat, k ≠ 9 → xm_u2 M 0 9 nM 0 k = M 0 k := fun k hk => by rw [xm_u2_at, if_neg hk]
  have eA : ∀ r : Nat, 0 < r → cA (xm_u2 M 0 9 nM) r = cA M r := fun r hr => cA_eq (fun k hk => f _ (by omega)) (by rw [f r (by omega)])
  unfold cN c_bT c_im c_l c_tp
  rw [f 37 (by omega), f 38 (by omega), f0 15 (by omega), f0 11 (by omega), f0 13 (by omega), f 3 (by omega), f 16 (by omega), f 4 (by omega), f0 14 (by omega), f 5 (by omega), f 6 (by omega), eA 5 (by omega), eA 6 (by omega)]
  have e1 : ∀ k, cA (xm_u2 M 0 9 nM) (10 + k) = cA M (10 + k) := fun k => eA _ (by omega)
  simp only [e1]
abbrev bX1_limps_0 : List xE := [(.aload_n 0, 1, 0, 0, 0), (.iload_n 1, 2, 0, 0, 0), (.invokevirtual 217, 5, 0, 0, 9), (.iconst 0, 6, 0, 0, 0), (.istore_n 2, 7, 0, 0, 0), (.aload_n 0, 8, 0, 0, 0), (.iload_n 1, 9, 0, 0, 0), (.putfield 72, 12, 0, 9, 0), (.aload_n 0, 13, 0, 0, 0), (.iconst 0, 14, 0, 0, 0), (.putfield 114, 17, 0, 10, 0)]
abbrev bX1_limps_17 : List xE := [(.aload_n 0, 18, 0, 0, 0), (.getfield 114, 21, 0, 10, 0), (.bipush 10, 23, 0, 0, 0), (.if_icmp .ge 40, 26, 0, 63, 0), (.iload_n 2, 27, 0, 0, 0), (.aload_n 0, 28, 0, 0, 0), (.invokevirtual 359, 31, 0, 1, 9), (.aload_n 0, 32, 0, 0, 0), (.getfield 104, 35, 0, 11, 0), (.if_icmp .ne 12, 38, 0, 47, 0), (.iconst 1, 39, 0, 0, 0), (.aload_n 0, 40, 0, 0, 0), (.getfield 114, 43, 0, 10, 0), (.ishl, 44, 0, 0, 0), (.goto 4, 47, 0, 48, 0)]
abbrev bX1_limps_47 : List xE := [(.iconst 0, 48, 0, 0, 0)]
abbrev bX1_limps_48 : List xE := [(.ior, 49, 0, 0, 0), (.istore_n 2, 50, 0, 0, 0), (.aload_n 0, 51, 0, 0, 0), (.dup, 52, 0, 0, 0), (.getfield 114, 55, 0, 10, 0), (.iconst 1, 56, 0, 0, 0), (.iadd, 57, 0, 0, 0), (.putfield 114, 60, 0, 10, 0), (.goto (-43), 63, 0, 17, 0)]
abbrev bX1_limps_63 : List xE := [(.aload_n 0, 64, 0, 0, 0), (.iconst (-1), 65, 0, 0, 0), (.putfield 72, 68, 0, 9, 0), (.iload_n 2, 69, 0, 0, 0), (.ireturn, 70, 0, 0, 0)]
abbrev kX1_limps : List (Nat × List xE) := [(0, bX1_limps_0), (17, bX1_limps_17), (47, bX1_limps_47), (48, bX1_limps_48), (63, bX1_limps_63)]
abbrev lX1_limps : List (Nat × Nat × Nat × xS) := [(2, 1, 6, xm_this 0 S_X1_needHand), (1, 0, 0, xm_this 0 S_X1_rightNow)]
theorem oX1_limps_0  : xm_okb cI RX1 cX1_limps false 165 lX1_limps bX1_limps_0 0 := xo_0 dX1_limps_0 rfl trivial (xo_0 dX1_limps_1 rfl trivial (xo_c rfl (cv_X1_needHand dX1_limps_2 (Or.inl q1576) (by decide)) (xo_0 dX1_limps_5 rfl trivial (xo_0 dX1_limps_6 rfl trivial (xo_0 dX1_limps_7 rfl trivial (xo_0 dX1_limps_8 rfl trivial (xo_0 dX1_limps_9 rfl (xm_fp_of (xm_fg_of (Or.inl q728) (by decide) rfl (by decide) rfl rfl (Or.inl rfl) rfl) (by decide) rfl (Or.inl ⟨rfl, rfl⟩) rfl) (xo_0 dX1_limps_12 rfl trivial (xo_0 dX1_limps_13 rfl trivial (xo_0 dX1_limps_14 rfl (xm_fp_of (xm_fg_of (Or.inl q729) (by decide) rfl (by decide) rfl rfl (Or.inl rfl) rfl) (by decide) rfl (Or.inl ⟨rfl, rfl⟩) rfl) (xo_n)))))))))))
theorem oX1_limps_17  : xm_okb cI RX1 cX1_limps false 165 lX1_limps bX1_limps_17 17 := xo_0 dX1_limps_17 rfl trivial (xo_0 dX1_limps_18 rfl (xm_fg_of (Or.inl q729) (by decide) rfl (by decide) rfl rfl (Or.inl rfl) rfl) (xo_0 dX1_limps_21 rfl (xo_bipush (by decide +kernel)) (xo_0 dX1_limps_23 rfl rfl (xo_0 dX1_limps_26 rfl trivial (xo_0 dX1_limps_27 rfl trivial (xo_c rfl (cv_X1_rightNow dX1_limps_28 (Or.inl q868) (by decide)) (xo_0 dX1_limps_31 rfl trivial (xo_0 dX1_limps_32 rfl (xm_fg_of (Or.inl q730) (by decide) rfl (by decide) rfl rfl (Or.inl rfl) rfl) (xo_0 dX1_limps_35 rfl rfl (xo_0 dX1_limps_38 rfl trivial (xo_0 dX1_limps_39 rfl trivial (xo_0 dX1_limps_40 rfl (xm_fg_of (Or.inl q729) (by decide) rfl (by decide) rfl rfl (Or.inl rfl) rfl) (xo_0 dX1_limps_43 rfl trivial (xo_0 dX1_limps_44 rfl rfl (xo_n)))))))))))))))
theorem oX1_limps_47  : xm_okb cI RX1 cX1_limps false 165 lX1_limps bX1_limps_47 47 := xo_0 dX1_limps_47 rfl trivial (xo_n)
theorem oX1_limps_48  : xm_okb cI RX1 cX1_limps false 165 lX1_limps bX1_limps_48 48 := xo_0 dX1_limps_48 rfl trivial (xo_0 dX1_limps_49 rfl trivial (xo_0 dX1_limps_50 rfl trivial (xo_0 dX1_limps_51 rfl trivial (xo_0 dX1_limps_52 rfl (xm_fg_of (Or.inl q729) (by decide) rfl (by decide) rfl rfl (Or.inl rfl) rfl) (xo_0 dX1_limps_55 rfl trivial (xo_0 dX1_limps_56 rfl trivial (xo_0 dX1_limps_57 rfl (xm_fp_of (xm_fg_of (Or.inl q729) (by decide) rfl (by decide) rfl rfl (Or.inl rfl) rfl) (by decide) rfl (Or.inl ⟨rfl, rfl⟩) rfl) (xo_0 dX1_limps_60 rfl rfl (xo_n)))))))))
theorem oX1_limps_63  : xm_okb cI RX1 cX1_limps false 165 lX1_limps bX1_limps_63 63 := xo_0 dX1_limps_63 rfl trivial (xo_0 dX1_limps_64 rfl trivial (xo_0 dX1_limps_65 rfl (xm_fp_of (xm_fg_of (Or.inl q728) (by decide) rfl (by decide) rfl rfl (Or.inl rfl) rfl) (by decide) rfl (Or.inl ⟨rfl, rfl⟩) rfl) (xo_0 dX1_limps_68 rfl trivial (xo_0 dX1_limps_69 rfl trivial (xo_n)))))
theorem oX1_limps  : ∀ q ∈ kX1_limps, xm_okb cI RX1 cX1_limps false 165 lX1_limps q.2 q.1 := by
  intro q hq
  simp only [List.mem_cons, List.not_mem_nil, or_false] at hq
  rcases hq with rfl | rfl | rfl | rfl | rfl
  · exact oX1_limps_0  
  · exact oX1_limps_17  
  · exact oX1_limps_47  
  · exact oX1_limps_48  
  · exact oX1_limps_63  
def S_X1_limps : xS := cU fun as P Z I Q QX => ∃ a L, as = [.ref 0, .int a] ∧ c_good P Z I L ∧ g_ok (cG P I L) ∧ g_w (gbeg (cG P I L)) ∧ c_P P Z L (cG P I L) Q QX (q_limps (cG P I L) a)
theorem body_X1_limps : xm_Body 3 0 1 6 [] lX1_limps kX1_limps S_X1_limps := by
  intro X avs w Q QX hX0 hS
  have hG := xm_go [] hX0
  have hX := xm_go [17] hX0
  clear hX0
  obtain ⟨P, Z, I, rfl, a, L, rfl, hg, hk0, hw0, hQ⟩ := hS
  obtain ⟨b1, b2⟩ := c_beg hk0 hw0
  have hok := hg.ok
  have hlw := hg.lw
  have hln : c_lnok I := hg.2.2.2.2.2.2.1
  obtain ⟨hn, h9, hm, h8⟩ := id hok
  have i9 : I 0 9 = nM := hg.2.2.2.2.1
  refine ⟨rfl, ?_⟩
  repeat' (first
    | ((with_reducible refine @And.intro (vp_in _ _) _ ?_ ?_); (· (first | with_reducible assumption | ((with_reducible refine t_vin ?_); decide) | ((with_reducible refine vp_in_nI ?_ ?_) <;> first | omega | decide) | (simp (disch := omega) only [xl_n, xl_m, nI_dec, nI_sb, nI_add, pk_mul]; (with_reducible refine vp_in_nI ?_ ?_) <;> first | omega | decide))); (conv => whnf))
    | (refine And.intro (by first | with_reducible assumption | exact (show cL _ _ = _ from rfl) | decide) ?_; (conv => whnf))
    | ((with_reducible refine @And.intro (_ = _) _ ?_ ?_); (· rfl); (conv => whnf))
    | ((with_reducible refine @And.intro (@LE.le Nat _ _ _) _ ?_ ?_); (· (first | exact Nat.zero_le _ | exact Nat.le_of_ble_eq_true rfl | omega)); (conv => whnf))
    | ((with_reducible refine @And.intro (@LT.lt Nat _ _ _) _ ?_ ?_); (· omega); (conv => whnf))
    | ((with_reducible refine @And.intro (∃ _, _ = _) _ ?_ ?_); (· exact ⟨_, rfl⟩); (conv => whnf))
    | ((with_reducible refine @And.intro (_ ∨ _) _ ?_ ?_); (· (first | exact Or.inl rfl | exact Or.inr rfl | exact t_b01 _ | assumption)); (conv => whnf))
    | ((with_reducible refine @And.intro (¬ (_ = _)) _ ?_ ?_); (· first | assumption | (with_reducible assumption)); (conv => whnf))
    | (refine hX _ _ _ _ _ _ ?_; (conv => whnf); fail_if_success show False)
    | (rw [c_si]; (conv => whnf))
    | (refine ⟨_, rfl, ?_⟩; (conv => whnf))
    | (refine ⟨_, _, rfl, ?_⟩; (conv => whnf))
    | (refine ⟨_, _, _, rfl, ?_⟩; (conv => whnf))
    | (refine ⟨_, _, _, _, rfl, ?_⟩; (conv => whnf))
    | (refine ⟨a,rfl,hok,?_⟩; (conv => whnf))
    | fail)
  refine ⟨fun e => ?_, fun e x hx => ?_⟩
  · obtain ⟨h, hh, rfl⟩ := t_in_of (by omega) e
    have f : g_isH (cG P I L) (nI h) = true := e
    rw [q_limps, f, g_ck_t, nI_clamp (by omega)] at hQ
    have loop : ∀ k, k ≤ 10 → ∀ M, c_s9 I M → M 0 9 = nI h → M 0 10 = nI k → X 17 [some (.ref 0), some (.int (nI h)), some (.int (g_limps (cG P I L) h k))] [] (cW P Z M) 0 0 := by
      refine t_for fun k h1 ih M hM e9 e10 => ?_
      have nx := fun q => ih (k + 1) (by omega) q
      clear ih
      by_cases hk : k = 10
      · subst hk
        have d1 : Int32.ofInt 10 ≤ M 0 10 := by rw [e10]; decide +kernel
        clear nx
        refine hG _ _ _ _ _ _ ?_
        (conv => whnf)
        repeat' (first
          | ((with_reducible refine @And.intro (vp_in _ _) _ ?_ ?_); (· (first | with_reducible assumption | ((with_reducible refine t_vin ?_); decide) | ((with_reducible refine vp_in_nI ?_ ?_) <;> first | omega | decide) | (simp (disch := omega) only [xl_n, xl_m, nI_dec, nI_sb, nI_add, pk_mul]; (with_reducible refine vp_in_nI ?_ ?_) <;> first | omega | decide))); (conv => whnf))
          | (refine And.intro (by first | with_reducible assumption | exact (show cL _ _ = _ from rfl) | decide) ?_; (conv => whnf))
          | ((with_reducible refine @And.intro (_ = _) _ ?_ ?_); (· rfl); (conv => whnf))
          | ((with_reducible refine @And.intro (@LE.le Nat _ _ _) _ ?_ ?_); (· (first | exact Nat.zero_le _ | exact Nat.le_of_ble_eq_true rfl | omega)); (conv => whnf))
          | ((with_reducible refine @And.intro (@LT.lt Nat _ _ _) _ ?_ ?_); (· omega); (conv => whnf))
          | ((with_reducible refine @And.intro (∃ _, _ = _) _ ?_ ?_); (· exact ⟨_, rfl⟩); (conv => whnf))
          | ((with_reducible refine @And.intro (_ ∨ _) _ ?_ ?_); (· (first | exact Or.inl rfl | exact Or.inr rfl | exact t_b01 _ | assumption)); (conv => whnf))
          | ((with_reducible refine @And.intro (¬ (_ = _)) _ ?_ ?_); (· first | assumption | (with_reducible assumption)); (conv => whnf))
          | (refine hX _ _ _ _ _ _ ?_; (conv => whnf); fail_if_success show False)
          | (rw [c_si]; (conv => whnf))
          | (refine ⟨_, rfl, ?_⟩; (conv => whnf))
          | (refine ⟨_, _, rfl, ?_⟩; (conv => whnf))
          | (refine ⟨_, _, _, rfl, ?_⟩; (conv => whnf))
          | (refine ⟨_, _, _, _, rfl, ?_⟩; (conv => whnf))
          | (rw [xl_m]; (conv => whnf))
          | (refine And.intro (fun c => ?_) (fun c => ?_) <;> (first | (exact absurd c (by decide +kernel)) | (exact absurd c (by assumption)) | (exact False.elim (c (by assumption))) | (conv => whnf)))
          | fail)
        exact c_ask hQ hg (hM.sp i9) rfl
      · have d1 : ¬ Int32.ofInt 10 ≤ M 0 10 := by
          rw [e10, show Int32.ofInt 10 = nI 10 by decide +kernel, nI_leI (by omega) (by omega)]
          omega
        have nx := nx (by omega)
        have okM := hM.ok hok
        have lnM := hM.ln hln
        have lwM : c_lw P Z M L := hlw.eq fun a ha => hM.f (by omega)
        have bM1 : ∀ h, h < c_h M → nI 0 ≤ M 31 h := by rw [hM.hp.1, hM.f (b := 31) (by omega)]; exact b1
        have bM2 : ∀ p, p < 8 → t_m9 (M 38 p) := by rw [hM.f (b := 38) (by omega)]; exact b2
        refine hG _ _ _ _ _ _ ?_
        (conv => whnf)
        repeat' (first
          | ((with_reducible refine @And.intro (vp_in _ _) _ ?_ ?_); (· (first | with_reducible assumption | ((with_reducible refine t_vin ?_); decide) | ((with_reducible refine vp_in_nI ?_ ?_) <;> first | omega | decide) | (simp (disch := omega) only [xl_n, xl_m, nI_dec, nI_sb, nI_add, pk_mul]; (with_reducible refine vp_in_nI ?_ ?_) <;> first | omega | decide))); (conv => whnf))
          | (refine And.intro (by first | with_reducible assumption | exact (show cL _ _ = _ from rfl) | decide) ?_; (conv => whnf))
          | ((with_reducible refine @And.intro (_ = _) _ ?_ ?_); (· rfl); (conv => whnf))
          | ((with_reducible refine @And.intro (@LE.le Nat _ _ _) _ ?_ ?_); (· (first | exact Nat.zero_le _ | exact Nat.le_of_ble_eq_true rfl | omega)); (conv => whnf))
          | ((with_reducible refine @And.intro (@LT.lt Nat _ _ _) _ ?_ ?_); (· omega); (conv => whnf))
          | ((with_reducible refine @And.intro (∃ _, _ = _) _ ?_ ?_); (· exact ⟨_, rfl⟩); (conv => whnf))
          | ((with_reducible refine @And.intro (_ ∨ _) _ ?_ ?_); (· (first | exact Or.inl rfl | exact Or.inr rfl | exact t_b01 _ | assumption)); (conv => whnf))
          | ((with_reducible refine @And.intro (¬ (_ = _)) _ ?_ ?_); (· first | assumption | (with_reducible assumption)); (conv => whnf))
          | (refine hX _ _ _ _ _ _ ?_; (conv => whnf); fail_if_success show False)
          | (rw [c_si]; (conv => whnf))
          | (refine ⟨_, rfl, ?_⟩; (conv => whnf))
          | (refine ⟨_, _, rfl, ?_⟩; (conv => whnf))
          | (refine ⟨_, _, _, rfl, ?_⟩; (conv => whnf))
          | (refine ⟨_, _, _, _, rfl, ?_⟩; (conv => whnf))
          | fail)
        refine And.intro (fun z => absurd z d1) (fun _ => ?_)
        (conv => whnf)
        repeat' (first
          | ((with_reducible refine @And.intro (vp_in _ _) _ ?_ ?_); (· (first | with_reducible assumption | ((with_reducible refine t_vin ?_); decide) | ((with_reducible refine vp_in_nI ?_ ?_) <;> first | omega | decide) | (simp (disch := omega) only [xl_n, xl_m, nI_dec, nI_sb, nI_add, pk_mul]; (with_reducible refine vp_in_nI ?_ ?_) <;> first | omega | decide))); (conv => whnf))
          | (refine And.intro (by first | with_reducible assumption | exact (show cL _ _ = _ from rfl) | decide) ?_; (conv => whnf))
          | ((with_reducible refine @And.intro (_ = _) _ ?_ ?_); (· rfl); (conv => whnf))
          | ((with_reducible refine @And.intro (@LE.le Nat _ _ _) _ ?_ ?_); (· (first | exact Nat.zero_le _ | exact Nat.le_of_ble_eq_true rfl | omega)); (conv => whnf))
          | ((with_reducible refine @And.intro (@LT.lt Nat _ _ _) _ ?_ ?_); (· omega); (conv => whnf))
          | ((with_reducible refine @And.intro (∃ _, _ = _) _ ?_ ?_); (· exact ⟨_, rfl⟩); (conv => whnf))
          | ((with_reducible refine @And.intro (_ ∨ _) _ ?_ ?_); (· (first | exact Or.inl rfl | exact Or.inr rfl | exact t_b01 _ | assumption)); (conv => whnf))
          | ((with_reducible refine @And.intro (¬ (_ = _)) _ ?_ ?_); (· first | assumption | (with_reducible assumption)); (conv => whnf))
          | (refine hX _ _ _ _ _ _ ?_; (conv => whnf); fail_if_success show False)
          | (rw [c_si]; (conv => whnf))
          | (refine ⟨_, rfl, ?_⟩; (conv => whnf))
          | (refine ⟨_, _, rfl, ?_⟩; (conv => whnf))
          | (refine ⟨_, _, _, rfl, ?_⟩; (conv => whnf))
          | (refine ⟨_, _, _, _, rfl, ?_⟩; (conv => whnf))
          | (refine ⟨L,rfl,okM,lwM,lnM,bM1,bM2,?_⟩; (conv => whnf))
          | fail)
        intro J hJ
        have er : g_right (cK M L) (cG P M L) = g_right (g_limpK (cK I L) h (nI k)) (cG P I L) := by
          rw [hM.K e9 e10 hh h9 i9]
          exact g_right_N (hM.N hg)
        rw [er]
        have nx := nx (xm_u2 J 0 10 (nI (k + 1))) ((hM.st hJ.sp).u (Or.inr rfl)) (by rw [xm_u2_at, if_neg (by decide), hJ 0 (by omega) (by omega) (by omega) (by omega)]; exact e9) (by rw [xm_u2_at, if_pos rfl])
        have j10 : (cW P Z J).2.1 0 10 = nI k := by
          show J 0 10 = _
          rw [hJ 0 (by omega) (by omega) (by omega) (by omega)]
          exact e10
        have j11 : J 0 11 = nI (c_l I) := by
          rw [hJ 0 (by omega) (by omega) (by omega) (by omega), hM.2 11 (by omega) (by omega) (by omega) (by omega)]
          exact hln.1
        have ew : nI k + Int32.ofInt 1 = nI (k + 1) := by rw [xl_n.2.1, nI_add]
        have hl12 := hln.2.1
        have hr12 : g_right (g_limpK (cK I L) h (nI k)) (cG P I L) ≤ 0 + c_l I := g_pre_le _ _
        have es : g_limps (cG P I L) h (k + 1) = g_limps (cG P I L) h k ||| (if decide (g_right (g_limpK (cK I L) h (nI k)) (cG P I L) = c_l I) = true then t_bit k else nI 0) := rfl
        rw [es] at nx
        (conv => whnf)
        by_cases q : g_right (g_limpK (cK I L) h (nI k)) (cG P I L) = c_l I
        · have d2 : nI (g_right (g_limpK (cK I L) h (nI k)) (cG P I L)) = J 0 11 := by rw [q, j11]
          rw [decide_eq_true q, if_pos rfl] at nx
          repeat' (first
            | ((with_reducible refine @And.intro (vp_in _ _) _ ?_ ?_); (· (first | with_reducible assumption | ((with_reducible refine t_vin ?_); decide) | ((with_reducible refine vp_in_nI ?_ ?_) <;> first | omega | decide) | (simp (disch := omega) only [xl_n, xl_m, nI_dec, nI_sb, nI_add, pk_mul]; (with_reducible refine vp_in_nI ?_ ?_) <;> first | omega | decide))); (conv => whnf))
            | (refine And.intro (by first | with_reducible assumption | exact (show cL _ _ = _ from rfl) | decide) ?_; (conv => whnf))
            | ((with_reducible refine @And.intro (_ = _) _ ?_ ?_); (· rfl); (conv => whnf))
            | ((with_reducible refine @And.intro (@LE.le Nat _ _ _) _ ?_ ?_); (· (first | exact Nat.zero_le _ | exact Nat.le_of_ble_eq_true rfl | omega)); (conv => whnf))
            | ((with_reducible refine @And.intro (@LT.lt Nat _ _ _) _ ?_ ?_); (· omega); (conv => whnf))
            | ((with_reducible refine @And.intro (∃ _, _ = _) _ ?_ ?_); (· exact ⟨_, rfl⟩); (conv => whnf))
            | ((with_reducible refine @And.intro (_ ∨ _) _ ?_ ?_); (· (first | exact Or.inl rfl | exact Or.inr rfl | exact t_b01 _ | assumption)); (conv => whnf))
            | ((with_reducible refine @And.intro (¬ (_ = _)) _ ?_ ?_); (· first | assumption | (with_reducible assumption)); (conv => whnf))
            | (refine hX _ _ _ _ _ _ ?_; (conv => whnf); fail_if_success show False)
            | (rw [c_si]; (conv => whnf))
            | (refine ⟨_, rfl, ?_⟩; (conv => whnf))
            | (refine ⟨_, _, rfl, ?_⟩; (conv => whnf))
            | (refine ⟨_, _, _, rfl, ?_⟩; (conv => whnf))
            | (refine ⟨_, _, _, _, rfl, ?_⟩; (conv => whnf))
            | (rw [j10]; (conv => whnf))
            | (rw [ew]; (conv => whnf))
            | (refine And.intro (fun c => ?_) (fun c => ?_) <;> (first | (exact absurd c (by decide +kernel)) | (exact absurd c (by assumption)) | (exact False.elim (c (by assumption))) | (conv => whnf)))
            | fail)
          clear hX hG hQ
          simp (disch := omega) only [xl_n, xl_m, nI_dec, nI_sb, xl_0, xl_1, cW_i, Nat.add_zero, Nat.reduceAdd, Nat.reduceMul, t_bn0, t_bn1, Classical.not_not, t_lt, nI_add, nI_1, pk_mul, nI_clamp, c_si, nI_eq, nI_leI, nM_ne, nM_ne, xm_set, xm_lv0, xm_psh] at *
          exact nx
        · have d2 : ¬ nI (g_right (g_limpK (cK I L) h (nI k)) (cG P I L)) = J 0 11 := by
            rw [j11, nI_eq (by omega) (by omega)]
            exact q
          rw [decide_eq_false q, if_neg (by decide)] at nx
          repeat' (first
            | ((with_reducible refine @And.intro (vp_in _ _) _ ?_ ?_); (· (first | with_reducible assumption | ((with_reducible refine t_vin ?_); decide) | ((with_reducible refine vp_in_nI ?_ ?_) <;> first | omega | decide) | (simp (disch := omega) only [xl_n, xl_m, nI_dec, nI_sb, nI_add, pk_mul]; (with_reducible refine vp_in_nI ?_ ?_) <;> first | omega | decide))); (conv => whnf))
            | (refine And.intro (by first | with_reducible assumption | exact (show cL _ _ = _ from rfl) | decide) ?_; (conv => whnf))
            | ((with_reducible refine @And.intro (_ = _) _ ?_ ?_); (· rfl); (conv => whnf))
            | ((with_reducible refine @And.intro (@LE.le Nat _ _ _) _ ?_ ?_); (· (first | exact Nat.zero_le _ | exact Nat.le_of_ble_eq_true rfl | omega)); (conv => whnf))
            | ((with_reducible refine @And.intro (@LT.lt Nat _ _ _) _ ?_ ?_); (· omega); (conv => whnf))
            | ((with_reducible refine @And.intro (∃ _, _ = _) _ ?_ ?_); (· exact ⟨_, rfl⟩); (conv => whnf))
            | ((with_reducible refine @And.intro (_ ∨ _) _ ?_ ?_); (· (first | exact Or.inl rfl | exact Or.inr rfl | exact t_b01 _ | assumption)); (conv => whnf))
            | ((with_reducible refine @And.intro (¬ (_ = _)) _ ?_ ?_); (· first | assumption | (with_reducible assumption)); (conv => whnf))
            | (refine hX _ _ _ _ _ _ ?_; (conv => whnf); fail_if_success show False)
            | (rw [c_si]; (conv => whnf))
            | (refine ⟨_, rfl, ?_⟩; (conv => whnf))
            | (refine ⟨_, _, rfl, ?_⟩; (conv => whnf))
            | (refine ⟨_, _, _, rfl, ?_⟩; (conv => whnf))
            | (refine ⟨_, _, _, _, rfl, ?_⟩; (conv => whnf))
            | (rw [j10]; (conv => whnf))
            | (rw [ew]; (conv => whnf))
            | (refine And.intro (fun c => ?_) (fun c => ?_) <;> (first | (exact absurd c (by decide +kernel)) | (exact absurd c (by assumption)) | (exact False.elim (c (by assumption))) | (conv => whnf)))
            | fail)
          clear hX hG hQ
          simp (disch := omega) only [xl_n, xl_m, nI_dec, nI_sb, xl_0, xl_1, cW_i, Nat.add_zero, Nat.reduceAdd, Nat.reduceMul, t_bn0, t_bn1, Classical.not_not, t_lt, nI_add, nI_1, pk_mul, nI_clamp, c_si, nI_eq, nI_leI, nM_ne, nM_ne, xm_set, xm_lv0, xm_psh] at *
          exact nx
    have fin := loop 0 (Nat.zero_le _) (xm_u2 (xm_u2 I 0 9 (nI h)) 0 10 (nI 0)) ((c_s9.rf.u (Or.inl rfl)).u (Or.inr rfl)) (by rw [xm_u2_at, if_neg (by decide), xm_u2_at, if_pos rfl]) (by rw [xm_u2_at, if_pos rfl])
    clear loop
    (conv => whnf)
    repeat' (first
      | ((with_reducible refine @And.intro (vp_in _ _) _ ?_ ?_); (· (first | with_reducible assumption | ((with_reducible refine t_vin ?_); decide) | ((with_reducible refine vp_in_nI ?_ ?_) <;> first | omega | decide) | (simp (disch := omega) only [xl_n, xl_m, nI_dec, nI_sb, nI_add, pk_mul]; (with_reducible refine vp_in_nI ?_ ?_) <;> first | omega | decide))); (conv => whnf))
      | (refine And.intro (by first | with_reducible assumption | exact (show cL _ _ = _ from rfl) | decide) ?_; (conv => whnf))
      | ((with_reducible refine @And.intro (_ = _) _ ?_ ?_); (· rfl); (conv => whnf))
      | ((with_reducible refine @And.intro (@LE.le Nat _ _ _) _ ?_ ?_); (· (first | exact Nat.zero_le _ | exact Nat.le_of_ble_eq_true rfl | omega)); (conv => whnf))
      | ((with_reducible refine @And.intro (@LT.lt Nat _ _ _) _ ?_ ?_); (· omega); (conv => whnf))
      | ((with_reducible refine @And.intro (∃ _, _ = _) _ ?_ ?_); (· exact ⟨_, rfl⟩); (conv => whnf))
      | ((with_reducible refine @And.intro (_ ∨ _) _ ?_ ?_); (· (first | exact Or.inl rfl | exact Or.inr rfl | exact t_b01 _ | assumption)); (conv => whnf))
      | ((with_reducible refine @And.intro (¬ (_ = _)) _ ?_ ?_); (· first | assumption | (with_reducible assumption)); (conv => whnf))
      | (refine hX _ _ _ _ _ _ ?_; (conv => whnf); fail_if_success show False)
      | (rw [c_si]; (conv => whnf))
      | (refine ⟨_, rfl, ?_⟩; (conv => whnf))
      | (refine ⟨_, _, rfl, ?_⟩; (conv => whnf))
      | (refine ⟨_, _, _, rfl, ?_⟩; (conv => whnf))
      | (refine ⟨_, _, _, _, rfl, ?_⟩; (conv => whnf))
      | (refine And.intro (fun c => ?_) (fun c => ?_) <;> (first | (exact absurd c (by decide +kernel)) | (conv => whnf)))
      | fail)
    exact fin
  · exact c_ref0 hQ hg e hx n1_0
theorem ct_X1_limps : xm_Ct cI yX1_limps (ws_ yX1_limps cX1_limps 3 (some .int)) 165 1 6 S_X1_limps := xm_enter (rt := 0) (init := false) (by decide +kernel) rfl (fun h => by cases h) (Or.inl ⟨rfl, rfl⟩) (oX1_limps) body_X1_limps
theorem cv_X1_limps {own : String} {cc : ByteArray} {fr pc idx : Nat} (hdg : decode cc pc = .ok (.invokevirtual idx, 3)) (hl : xm_ml own idx yX1_limps) (hfr : 165 < fr) : xm_CallOK cI own cc fr pc (pc + 3) 2 1 6 (xm_this 0 S_X1_limps) := xm_callV 0 cI_good (ct_X1_limps) hdg hl q1777 q1778 q116 q1779 rfl rfl (by decide +kernel) hfr (by decide)
abbrev bX1_practise_0 : List xE := [(.aload_n 0, 1, 0, 0, 0), (.iload_n 1, 2, 0, 0, 0), (.invokevirtual 217, 5, 0, 0, 9), (.aload_n 0, 6, 0, 0, 0), (.iload_n 2, 7, 0, 0, 0), (.invokevirtual 238, 10, 0, 1, 9), (.iconst (-1), 11, 0, 0, 0), (.istore_n 3, 12, 0, 0, 0), (.aload_n 0, 13, 0, 0, 0), (.iload_n 1, 14, 0, 0, 0), (.putfield 72, 17, 0, 9, 0), (.aload_n 0, 18, 0, 0, 0), (.bipush 9, 20, 0, 0, 0), (.putfield 114, 23, 0, 10, 0)]
abbrev bX1_practise_23 : List xE := [(.aload_n 0, 24, 0, 0, 0), (.getfield 114, 27, 0, 10, 0), (.ifCond .lt 33, 30, 0, 60, 0), (.aload_n 0, 31, 0, 0, 0), (.getfield 58, 34, 0, 5, 1), (.iload_n 2, 35, 0, 0, 0), (.invokevirtual 281, 38, 0, 2, 9), (.iload_n 1, 39, 0, 0, 0), (.if_icmp .ne 8, 42, 0, 47, 0), (.aload_n 0, 43, 0, 0, 0), (.getfield 114, 46, 0, 10, 0), (.istore_n 3, 47, 0, 0, 0)]
abbrev bX1_practise_47 : List xE := [(.aload_n 0, 48, 0, 0, 0), (.dup, 49, 0, 0, 0), (.getfield 114, 52, 0, 10, 0), (.iconst 1, 53, 0, 0, 0), (.isub, 54, 0, 0, 0), (.putfield 114, 57, 0, 10, 0), (.goto (-34), 60, 0, 23, 0)]
abbrev bX1_practise_60 : List xE := [(.aload_n 0, 61, 0, 0, 0), (.iconst (-1), 62, 0, 0, 0), (.putfield 72, 65, 0, 9, 0), (.iload_n 3, 66, 0, 0, 0), (.ireturn, 67, 0, 0, 0)]
abbrev kX1_practise : List (Nat × List xE) := [(0, bX1_practise_0), (23, bX1_practise_23), (47, bX1_practise_47), (60, bX1_practise_60)]
abbrev lX1_practise : List (Nat × Nat × Nat × xS) := [(2, 1, 6, xm_this 0 S_X1_needHand), (2, 1, 6, xm_this 0 S_X1_needPuppet), (2, 0, 0, xm_this 7 S_X10_chooses)]
theorem oX1_practise_0  : xm_okb cI RX1 cX1_practise false 162 lX1_practise bX1_practise_0 0 := xo_0 dX1_practise_0 rfl trivial (xo_0 dX1_practise_1 rfl trivial (xo_c rfl (cv_X1_needHand dX1_practise_2 (Or.inl q1576) (by decide)) (xo_0 dX1_practise_5 rfl trivial (xo_0 dX1_practise_6 rfl trivial (xo_c rfl (cv_X1_needPuppet dX1_practise_7 (Or.inl q1607) (by decide)) (xo_0 dX1_practise_10 rfl trivial (xo_0 dX1_practise_11 rfl trivial (xo_0 dX1_practise_12 rfl trivial (xo_0 dX1_practise_13 rfl trivial (xo_0 dX1_practise_14 rfl (xm_fp_of (xm_fg_of (Or.inl q728) (by decide) rfl (by decide) rfl rfl (Or.inl rfl) rfl) (by decide) rfl (Or.inl ⟨rfl, rfl⟩) rfl) (xo_0 dX1_practise_17 rfl trivial (xo_0 dX1_practise_18 rfl (xo_bipush (by decide +kernel)) (xo_0 dX1_practise_20 rfl (xm_fp_of (xm_fg_of (Or.inl q729) (by decide) rfl (by decide) rfl rfl (Or.inl rfl) rfl) (by decide) rfl (Or.inl ⟨rfl, rfl⟩) rfl) (xo_n))))))))))))))
theorem oX1_practise_23  : xm_okb cI RX1 cX1_practise false 162 lX1_practise bX1_practise_23 23 := xo_0 dX1_practise_23 rfl trivial (xo_0 dX1_practise_24 rfl (xm_fg_of (Or.inl q729) (by decide) rfl (by decide) rfl rfl (Or.inl rfl) rfl) (xo_0 dX1_practise_27 rfl rfl (xo_0 dX1_practise_30 rfl trivial (xo_1 dX1_practise_31 rfl (xm_fg_of (Or.inl q724) (by decide) rfl (by decide) rfl rfl (Or.inl rfl) rfl) (xo_0 dX1_practise_34 rfl trivial (xo_c rfl (cv_X10_chooses dX1_practise_35 (Or.inl q1641) (by decide)) (xo_0 dX1_practise_38 rfl trivial (xo_0 dX1_practise_39 rfl rfl (xo_0 dX1_practise_42 rfl trivial (xo_0 dX1_practise_43 rfl (xm_fg_of (Or.inl q729) (by decide) rfl (by decide) rfl rfl (Or.inl rfl) rfl) (xo_0 dX1_practise_46 rfl trivial (xo_n))))))))))))
theorem oX1_practise_47  : xm_okb cI RX1 cX1_practise false 162 lX1_practise bX1_practise_47 47 := xo_0 dX1_practise_47 rfl trivial (xo_0 dX1_practise_48 rfl trivial (xo_0 dX1_practise_49 rfl (xm_fg_of (Or.inl q729) (by decide) rfl (by decide) rfl rfl (Or.inl rfl) rfl) (xo_0 dX1_practise_52 rfl trivial (xo_0 dX1_practise_53 rfl trivial (xo_0 dX1_practise_54 rfl (xm_fp_of (xm_fg_of (Or.inl q729) (by decide) rfl (by decide) rfl rfl (Or.inl rfl) rfl) (by decide) rfl (Or.inl ⟨rfl, rfl⟩) rfl) (xo_0 dX1_practise_57 rfl rfl (xo_n)))))))
theorem oX1_practise_60  : xm_okb cI RX1 cX1_practise false 162 lX1_practise bX1_practise_60 60 := xo_0 dX1_practise_60 rfl trivial (xo_0 dX1_practise_61 rfl trivial (xo_0 dX1_practise_62 rfl (xm_fp_of (xm_fg_of (Or.inl q728) (by decide) rfl (by decide) rfl rfl (Or.inl rfl) rfl) (by decide) rfl (Or.inl ⟨rfl, rfl⟩) rfl) (xo_0 dX1_practise_65 rfl trivial (xo_0 dX1_practise_66 rfl trivial (xo_n)))))
theorem oX1_practise  : ∀ q ∈ kX1_practise, xm_okb cI RX1 cX1_practise false 162 lX1_practise q.2 q.1 := by
  intro q hq
  simp only [List.mem_cons, List.not_mem_nil, or_false] at hq
  rcases hq with rfl | rfl | rfl | rfl
  · exact oX1_practise_0  
  · exact oX1_practise_23  
  · exact oX1_practise_47  
  · exact oX1_practise_60  
def S_X1_practise : xS := cU fun as P Z I Q QX => ∃ a b L, as = [.ref 0, .int a, .int b] ∧ c_good P Z I L ∧ c_P P Z L (cG P I L) Q QX (q_practise (cG P I L) a b)
theorem body_X1_practise : xm_Body 4 0 2 12 [] lX1_practise kX1_practise S_X1_practise := by
  intro X avs w Q QX hX0 hS
  have hG := xm_go [] hX0
  have hX := xm_go [23,47] hX0
  clear hX0
  obtain ⟨P, Z, I, rfl, a, b, L, rfl, hg, hQ⟩ := hS
  have hok := hg.ok
  have hlw := hg.lw
  have h5 := c_5 (P := P)
  obtain ⟨hn, h9, hm, h8⟩ := id hok
  have i9 : I 0 9 = nM := hg.2.2.2.2.1
  refine ⟨rfl, ?_⟩
  repeat' (first
    | ((with_reducible refine @And.intro (vp_in _ _) _ ?_ ?_); (· (first | with_reducible assumption | ((with_reducible refine t_vin ?_); decide) | ((with_reducible refine vp_in_nI ?_ ?_) <;> first | omega | decide) | (simp (disch := omega) only [xl_n, xl_m, nI_dec, nI_sb, nI_add, pk_mul]; (with_reducible refine vp_in_nI ?_ ?_) <;> first | omega | decide))); (conv => whnf))
    | (refine And.intro (by first | with_reducible assumption | exact (show cL _ _ = _ from rfl) | decide) ?_; (conv => whnf))
    | ((with_reducible refine @And.intro (_ = _) _ ?_ ?_); (· rfl); (conv => whnf))
    | ((with_reducible refine @And.intro (@LE.le Nat _ _ _) _ ?_ ?_); (· (first | exact Nat.zero_le _ | exact Nat.le_of_ble_eq_true rfl | omega)); (conv => whnf))
    | ((with_reducible refine @And.intro (@LT.lt Nat _ _ _) _ ?_ ?_); (· omega); (conv => whnf))
    | ((with_reducible refine @And.intro (∃ _, _ = _) _ ?_ ?_); (· exact ⟨_, rfl⟩); (conv => whnf))
    | ((with_reducible refine @And.intro (_ ∨ _) _ ?_ ?_); (· (first | exact Or.inl rfl | exact Or.inr rfl | exact t_b01 _ | assumption)); (conv => whnf))
    | ((with_reducible refine @And.intro (¬ (_ = _)) _ ?_ ?_); (· first | assumption | (with_reducible assumption)); (conv => whnf))
    | (refine hX _ _ _ _ _ _ ?_; (conv => whnf); fail_if_success show False)
    | (rw [c_si]; (conv => whnf))
    | (refine ⟨_, rfl, ?_⟩; (conv => whnf))
    | (refine ⟨_, _, rfl, ?_⟩; (conv => whnf))
    | (refine ⟨_, _, _, rfl, ?_⟩; (conv => whnf))
    | (refine ⟨_, _, _, _, rfl, ?_⟩; (conv => whnf))
    | (refine ⟨a,rfl,hok,?_⟩; (conv => whnf))
    | fail)
  refine ⟨fun e => ?_, fun e x hx => ?_⟩
  · obtain ⟨h, hh, rfl⟩ := t_in_of (by omega) e
    have f : g_isH (cG P I L) (nI h) = true := e
    (conv => whnf)
    repeat' (first
      | ((with_reducible refine @And.intro (vp_in _ _) _ ?_ ?_); (· (first | with_reducible assumption | ((with_reducible refine t_vin ?_); decide) | ((with_reducible refine vp_in_nI ?_ ?_) <;> first | omega | decide) | (simp (disch := omega) only [xl_n, xl_m, nI_dec, nI_sb, nI_add, pk_mul]; (with_reducible refine vp_in_nI ?_ ?_) <;> first | omega | decide))); (conv => whnf))
      | (refine And.intro (by first | with_reducible assumption | exact (show cL _ _ = _ from rfl) | decide) ?_; (conv => whnf))
      | ((with_reducible refine @And.intro (_ = _) _ ?_ ?_); (· rfl); (conv => whnf))
      | ((with_reducible refine @And.intro (@LE.le Nat _ _ _) _ ?_ ?_); (· (first | exact Nat.zero_le _ | exact Nat.le_of_ble_eq_true rfl | omega)); (conv => whnf))
      | ((with_reducible refine @And.intro (@LT.lt Nat _ _ _) _ ?_ ?_); (· omega); (conv => whnf))
      | ((with_reducible refine @And.intro (∃ _, _ = _) _ ?_ ?_); (· exact ⟨_, rfl⟩); (conv => whnf))
      | ((with_reducible refine @And.intro (_ ∨ _) _ ?_ ?_); (· (first | exact Or.inl rfl | exact Or.inr rfl | exact t_b01 _ | assumption)); (conv => whnf))
      | ((with_reducible refine @And.intro (¬ (_ = _)) _ ?_ ?_); (· first | assumption | (with_reducible assumption)); (conv => whnf))
      | (refine hX _ _ _ _ _ _ ?_; (conv => whnf); fail_if_success show False)
      | (rw [c_si]; (conv => whnf))
      | (refine ⟨_, rfl, ?_⟩; (conv => whnf))
      | (refine ⟨_, _, rfl, ?_⟩; (conv => whnf))
      | (refine ⟨_, _, _, rfl, ?_⟩; (conv => whnf))
      | (refine ⟨_, _, _, _, rfl, ?_⟩; (conv => whnf))
      | (refine ⟨b,rfl,hok,?_⟩; (conv => whnf))
      | fail)
    refine ⟨fun e2 => ?_, fun e2 x hx => ?_⟩
    · obtain ⟨p, hp, rfl⟩ := t_in_of (by omega) e2
      have f2 : g_isP (cG P I L) (nI p) = true := e2
      rw [q_practise, f, f2, Bool.and_true, g_ck_t, nI_clamp (by omega), nI_clamp (by omega)] at hQ
      have loop : ∀ k, k ≤ 10 → ∀ M, c_s9 I M → M 0 9 = nI h → M 0 10 = t_down k → X 23 [some (.ref 0), some (.int (nI h)), some (.int (nI p)), some (.int (g_prac (cG P I L) h p k))] [] (cW P Z M) 0 0 := by
        refine t_for fun k h1 ih M hM e9 e10 => ?_
        by_cases hk : k = 10
        · subst hk
          have d1 : M 0 10 < 0 := by rw [e10]; decide +kernel
          clear ih
          refine hG _ _ _ _ _ _ ?_
          (conv => whnf)
          repeat' (first
            | ((with_reducible refine @And.intro (vp_in _ _) _ ?_ ?_); (· (first | with_reducible assumption | ((with_reducible refine t_vin ?_); decide) | ((with_reducible refine vp_in_nI ?_ ?_) <;> first | omega | decide) | (simp (disch := omega) only [xl_n, xl_m, nI_dec, nI_sb, nI_add, pk_mul]; (with_reducible refine vp_in_nI ?_ ?_) <;> first | omega | decide))); (conv => whnf))
            | (refine And.intro (by first | with_reducible assumption | exact (show cL _ _ = _ from rfl) | decide) ?_; (conv => whnf))
            | ((with_reducible refine @And.intro (_ = _) _ ?_ ?_); (· rfl); (conv => whnf))
            | ((with_reducible refine @And.intro (@LE.le Nat _ _ _) _ ?_ ?_); (· (first | exact Nat.zero_le _ | exact Nat.le_of_ble_eq_true rfl | omega)); (conv => whnf))
            | ((with_reducible refine @And.intro (@LT.lt Nat _ _ _) _ ?_ ?_); (· omega); (conv => whnf))
            | ((with_reducible refine @And.intro (∃ _, _ = _) _ ?_ ?_); (· exact ⟨_, rfl⟩); (conv => whnf))
            | ((with_reducible refine @And.intro (_ ∨ _) _ ?_ ?_); (· (first | exact Or.inl rfl | exact Or.inr rfl | exact t_b01 _ | assumption)); (conv => whnf))
            | ((with_reducible refine @And.intro (¬ (_ = _)) _ ?_ ?_); (· first | assumption | (with_reducible assumption)); (conv => whnf))
            | (refine hX _ _ _ _ _ _ ?_; (conv => whnf); fail_if_success show False)
            | (rw [c_si]; (conv => whnf))
            | (refine ⟨_, rfl, ?_⟩; (conv => whnf))
            | (refine ⟨_, _, rfl, ?_⟩; (conv => whnf))
            | (refine ⟨_, _, _, rfl, ?_⟩; (conv => whnf))
            | (refine ⟨_, _, _, _, rfl, ?_⟩; (conv => whnf))
            | (rw [xl_m]; (conv => whnf))
            | (refine And.intro (fun c => ?_) (fun c => ?_) <;> (first | (exact absurd c (by decide +kernel)) | (exact absurd c (by assumption)) | (exact False.elim (c (by assumption))) | (conv => whnf)))
            | fail)
          exact c_ask hQ hg (hM.sp i9) rfl
        · have ed : t_down k = nI (9 - k) := if_pos (by omega)
          have en : nI (9 - k) - Int32.ofInt 1 = t_down (k + 1) := by
            unfold t_down
            by_cases q : k = 9
            · subst q
              decide +kernel
            · rw [if_pos (by omega), show 9 - k = (9 - (k + 1)) + 1 by omega, xl_n.2.1, nI_sb]
          have d1 : ¬ M 0 10 < 0 := by
            rw [e10, ed]
            exact (nI_nn (by omega)).1
          have ih := ih (k + 1) (by omega) (by omega)
          rw [g_prac_s] at ih
          have okM := hM.ok hok
          have lwM : c_lw P Z M L := hlw.eq fun a ha => hM.f (by omega)
          have eAM : cA M 5 = cA I 5 := cA_eq (fun k hk => hM.f (by omega)) (by rw [hM.f (b := 5) (by omega)])
          have isM : c_is M 5 := fun j hj => by
            rw [hM.hp.1] at hj
            rw [eAM, hM.f (b := 10 * 5) (by omega), hM.f (b := 31) (by omega), hM.f (b := 5) (by omega)]
            exact hg.now.2.2.1 j hj
          have wM : g_w (cA M 5) := by rw [eAM]; exact hg.now.2.2.2.1
          have hpM : p < c_p M := by rw [hM.hp.2]; exact hp
          have x47 : ∀ J, c_fa M J → X 47 [some (.ref 0), some (.int (nI h)), some (.int (nI p)), some (.int (if g_chosen (g_limpK (gGK (cG P I L)) h (nI (9 - k))) (gnow (cG P I L)) p = some h then nI (9 - k) else g_prac (cG P I L) h p k))] [] (cW P Z J) 0 0 := fun J hJ => by
            have j0 : J 0 = M 0 := hJ 0 (by decide)
            have j10 : (cW P Z J).2.1 0 10 = nI (9 - k) := by
              show J 0 10 = _
              rw [j0, e10, ed]
            have nx := ih (xm_u2 J 0 10 (t_down (k + 1))) ((hM.st hJ.sp).u (Or.inr rfl)) (by rw [xm_u2_at, if_neg (by decide), j0]; exact e9) (by rw [xm_u2_at, if_pos rfl])
            clear ih
            rw [← en] at nx
            refine hG _ _ _ _ _ _ ?_
            (conv => whnf)
            repeat' (first
              | ((with_reducible refine @And.intro (vp_in _ _) _ ?_ ?_); (· (first | with_reducible assumption | ((with_reducible refine t_vin ?_); decide) | ((with_reducible refine vp_in_nI ?_ ?_) <;> first | omega | decide) | (simp (disch := omega) only [xl_n, xl_m, nI_dec, nI_sb, nI_add, pk_mul]; (with_reducible refine vp_in_nI ?_ ?_) <;> first | omega | decide))); (conv => whnf))
              | (refine And.intro (by first | with_reducible assumption | exact (show cL _ _ = _ from rfl) | decide) ?_; (conv => whnf))
              | ((with_reducible refine @And.intro (_ = _) _ ?_ ?_); (· rfl); (conv => whnf))
              | ((with_reducible refine @And.intro (@LE.le Nat _ _ _) _ ?_ ?_); (· (first | exact Nat.zero_le _ | exact Nat.le_of_ble_eq_true rfl | omega)); (conv => whnf))
              | ((with_reducible refine @And.intro (@LT.lt Nat _ _ _) _ ?_ ?_); (· omega); (conv => whnf))
              | ((with_reducible refine @And.intro (∃ _, _ = _) _ ?_ ?_); (· exact ⟨_, rfl⟩); (conv => whnf))
              | ((with_reducible refine @And.intro (_ ∨ _) _ ?_ ?_); (· (first | exact Or.inl rfl | exact Or.inr rfl | exact t_b01 _ | assumption)); (conv => whnf))
              | ((with_reducible refine @And.intro (¬ (_ = _)) _ ?_ ?_); (· first | assumption | (with_reducible assumption)); (conv => whnf))
              | (refine hX _ _ _ _ _ _ ?_; (conv => whnf); fail_if_success show False)
              | (rw [c_si]; (conv => whnf))
              | (refine ⟨_, rfl, ?_⟩; (conv => whnf))
              | (refine ⟨_, _, rfl, ?_⟩; (conv => whnf))
              | (refine ⟨_, _, _, rfl, ?_⟩; (conv => whnf))
              | (refine ⟨_, _, _, _, rfl, ?_⟩; (conv => whnf))
              | (rw [j10]; (conv => whnf))
              | (refine And.intro (fun c => ?_) (fun c => ?_) <;> (first | (exact absurd c (by decide +kernel)) | (conv => whnf)))
              | fail)
            exact nx
          clear ih
          refine hG _ _ _ _ _ _ ?_
          (conv => whnf)
          repeat' (first
            | ((with_reducible refine @And.intro (vp_in _ _) _ ?_ ?_); (· (first | with_reducible assumption | ((with_reducible refine t_vin ?_); decide) | ((with_reducible refine vp_in_nI ?_ ?_) <;> first | omega | decide) | (simp (disch := omega) only [xl_n, xl_m, nI_dec, nI_sb, nI_add, pk_mul]; (with_reducible refine vp_in_nI ?_ ?_) <;> first | omega | decide))); (conv => whnf))
            | (refine And.intro (by first | with_reducible assumption | exact (show cL _ _ = _ from rfl) | decide) ?_; (conv => whnf))
            | ((with_reducible refine @And.intro (_ = _) _ ?_ ?_); (· rfl); (conv => whnf))
            | ((with_reducible refine @And.intro (@LE.le Nat _ _ _) _ ?_ ?_); (· (first | exact Nat.zero_le _ | exact Nat.le_of_ble_eq_true rfl | omega)); (conv => whnf))
            | ((with_reducible refine @And.intro (@LT.lt Nat _ _ _) _ ?_ ?_); (· omega); (conv => whnf))
            | ((with_reducible refine @And.intro (∃ _, _ = _) _ ?_ ?_); (· exact ⟨_, rfl⟩); (conv => whnf))
            | ((with_reducible refine @And.intro (_ ∨ _) _ ?_ ?_); (· (first | exact Or.inl rfl | exact Or.inr rfl | exact t_b01 _ | assumption)); (conv => whnf))
            | ((with_reducible refine @And.intro (¬ (_ = _)) _ ?_ ?_); (· first | assumption | (with_reducible assumption)); (conv => whnf))
            | (refine hX _ _ _ _ _ _ ?_; (conv => whnf); fail_if_success show False)
            | (rw [c_si]; (conv => whnf))
            | (refine ⟨_, rfl, ?_⟩; (conv => whnf))
            | (refine ⟨_, _, rfl, ?_⟩; (conv => whnf))
            | (refine ⟨_, _, _, rfl, ?_⟩; (conv => whnf))
            | (refine ⟨_, _, _, _, rfl, ?_⟩; (conv => whnf))
            | fail)
          refine And.intro (fun z => absurd z d1) (fun _ => ?_)
          (conv => whnf)
          repeat' (first
            | ((with_reducible refine @And.intro (vp_in _ _) _ ?_ ?_); (· (first | with_reducible assumption | ((with_reducible refine t_vin ?_); decide) | ((with_reducible refine vp_in_nI ?_ ?_) <;> first | omega | decide) | (simp (disch := omega) only [xl_n, xl_m, nI_dec, nI_sb, nI_add, pk_mul]; (with_reducible refine vp_in_nI ?_ ?_) <;> first | omega | decide))); (conv => whnf))
            | (refine And.intro (by first | with_reducible assumption | exact (show cL _ _ = _ from rfl) | decide) ?_; (conv => whnf))
            | ((with_reducible refine @And.intro (_ = _) _ ?_ ?_); (· rfl); (conv => whnf))
            | ((with_reducible refine @And.intro (@LE.le Nat _ _ _) _ ?_ ?_); (· (first | exact Nat.zero_le _ | exact Nat.le_of_ble_eq_true rfl | omega)); (conv => whnf))
            | ((with_reducible refine @And.intro (@LT.lt Nat _ _ _) _ ?_ ?_); (· omega); (conv => whnf))
            | ((with_reducible refine @And.intro (∃ _, _ = _) _ ?_ ?_); (· exact ⟨_, rfl⟩); (conv => whnf))
            | ((with_reducible refine @And.intro (_ ∨ _) _ ?_ ?_); (· (first | exact Or.inl rfl | exact Or.inr rfl | exact t_b01 _ | assumption)); (conv => whnf))
            | ((with_reducible refine @And.intro (¬ (_ = _)) _ ?_ ?_); (· first | assumption | (with_reducible assumption)); (conv => whnf))
            | (refine hX _ _ _ _ _ _ ?_; (conv => whnf); fail_if_success show False)
            | (rw [c_si]; (conv => whnf))
            | (refine ⟨_, rfl, ?_⟩; (conv => whnf))
            | (refine ⟨_, _, rfl, ?_⟩; (conv => whnf))
            | (refine ⟨_, _, _, rfl, ?_⟩; (conv => whnf))
            | (refine ⟨_, _, _, _, rfl, ?_⟩; (conv => whnf))
            | (refine ⟨5,p,L,rfl,h5,okM,hpM,isM,lwM,wM,?_⟩; (conv => whnf))
            | (rw [c_tl h5]; (conv => whnf))
            | (rw [c_t7 h5]; (conv => whnf))
            | (rw [c_tf h5 (by decide)]; (conv => whnf))
            | (rw [c_t0 h5]; (conv => whnf))
            | (rw [c_t1 h5]; (conv => whnf))
            | (rw [c_t2 h5]; (conv => whnf))
            | (rw [c_t3 h5]; (conv => whnf))
            | (rw [c_t4 h5]; (conv => whnf))
            | (rw [c_t5 h5]; (conv => whnf))
            | (refine And.intro ⟨_, c_tl h5⟩ ?_; (conv => whnf))
            | fail)
          intro J hJ
          have x47 := x47 J hJ
          have j10 : (cW P Z J).2.1 0 10 = nI (9 - k) := by
            show J 0 10 = _
            rw [hJ 0 (by decide), e10, ed]
          rw [hM.K e9 (e10.trans ed) hh h9 i9, eAM]
          have q := t_o_eq (o := g_chosen (g_limpK (cK I L) h (nI (9 - k))) (cA I 5) p) (h := h) (by omega) (fun z hz => by
            have := g_best_lt (n := c_h I) hz
            omega)
          (conv => whnf)
          by_cases y : g_chosen (g_limpK (cK I L) h (nI (9 - k))) (cA I 5) p = some h
          · have d2 : t_o (g_chosen (g_limpK (cK I L) h (nI (9 - k))) (cA I 5) p) = nI h := by rw [q]; exact y
            rw [if_pos (show g_chosen (g_limpK (gGK (cG P I L)) h (nI (9 - k))) (gnow (cG P I L)) p = some h from y)] at x47
            repeat' (first
              | ((with_reducible refine @And.intro (vp_in _ _) _ ?_ ?_); (· (first | with_reducible assumption | ((with_reducible refine t_vin ?_); decide) | ((with_reducible refine vp_in_nI ?_ ?_) <;> first | omega | decide) | (simp (disch := omega) only [xl_n, xl_m, nI_dec, nI_sb, nI_add, pk_mul]; (with_reducible refine vp_in_nI ?_ ?_) <;> first | omega | decide))); (conv => whnf))
              | (refine And.intro (by first | with_reducible assumption | exact (show cL _ _ = _ from rfl) | decide) ?_; (conv => whnf))
              | ((with_reducible refine @And.intro (_ = _) _ ?_ ?_); (· rfl); (conv => whnf))
              | ((with_reducible refine @And.intro (@LE.le Nat _ _ _) _ ?_ ?_); (· (first | exact Nat.zero_le _ | exact Nat.le_of_ble_eq_true rfl | omega)); (conv => whnf))
              | ((with_reducible refine @And.intro (@LT.lt Nat _ _ _) _ ?_ ?_); (· omega); (conv => whnf))
              | ((with_reducible refine @And.intro (∃ _, _ = _) _ ?_ ?_); (· exact ⟨_, rfl⟩); (conv => whnf))
              | ((with_reducible refine @And.intro (_ ∨ _) _ ?_ ?_); (· (first | exact Or.inl rfl | exact Or.inr rfl | exact t_b01 _ | assumption)); (conv => whnf))
              | ((with_reducible refine @And.intro (¬ (_ = _)) _ ?_ ?_); (· first | assumption | (with_reducible assumption)); (conv => whnf))
              | (refine hX _ _ _ _ _ _ ?_; (conv => whnf); fail_if_success show False)
              | (rw [c_si]; (conv => whnf))
              | (refine ⟨_, rfl, ?_⟩; (conv => whnf))
              | (refine ⟨_, _, rfl, ?_⟩; (conv => whnf))
              | (refine ⟨_, _, _, rfl, ?_⟩; (conv => whnf))
              | (refine ⟨_, _, _, _, rfl, ?_⟩; (conv => whnf))
              | (rw [j10]; (conv => whnf))
              | (refine And.intro (fun c => ?_) (fun c => ?_) <;> (first | (exact absurd c (by decide +kernel)) | (exact absurd c (by assumption)) | (exact False.elim (c (by assumption))) | (conv => whnf)))
              | fail)
            exact x47
          · have d2 : ¬ t_o (g_chosen (g_limpK (cK I L) h (nI (9 - k))) (cA I 5) p) = nI h := by rw [q]; exact y
            rw [if_neg (show ¬ g_chosen (g_limpK (gGK (cG P I L)) h (nI (9 - k))) (gnow (cG P I L)) p = some h from y)] at x47
            repeat' (first
              | ((with_reducible refine @And.intro (vp_in _ _) _ ?_ ?_); (· (first | with_reducible assumption | ((with_reducible refine t_vin ?_); decide) | ((with_reducible refine vp_in_nI ?_ ?_) <;> first | omega | decide) | (simp (disch := omega) only [xl_n, xl_m, nI_dec, nI_sb, nI_add, pk_mul]; (with_reducible refine vp_in_nI ?_ ?_) <;> first | omega | decide))); (conv => whnf))
              | (refine And.intro (by first | with_reducible assumption | exact (show cL _ _ = _ from rfl) | decide) ?_; (conv => whnf))
              | ((with_reducible refine @And.intro (_ = _) _ ?_ ?_); (· rfl); (conv => whnf))
              | ((with_reducible refine @And.intro (@LE.le Nat _ _ _) _ ?_ ?_); (· (first | exact Nat.zero_le _ | exact Nat.le_of_ble_eq_true rfl | omega)); (conv => whnf))
              | ((with_reducible refine @And.intro (@LT.lt Nat _ _ _) _ ?_ ?_); (· omega); (conv => whnf))
              | ((with_reducible refine @And.intro (∃ _, _ = _) _ ?_ ?_); (· exact ⟨_, rfl⟩); (conv => whnf))
              | ((with_reducible refine @And.intro (_ ∨ _) _ ?_ ?_); (· (first | exact Or.inl rfl | exact Or.inr rfl | exact t_b01 _ | assumption)); (conv => whnf))
              | ((with_reducible refine @And.intro (¬ (_ = _)) _ ?_ ?_); (· first | assumption | (with_reducible assumption)); (conv => whnf))
              | (refine hX _ _ _ _ _ _ ?_; (conv => whnf); fail_if_success show False)
              | (rw [c_si]; (conv => whnf))
              | (refine ⟨_, rfl, ?_⟩; (conv => whnf))
              | (refine ⟨_, _, rfl, ?_⟩; (conv => whnf))
              | (refine ⟨_, _, _, rfl, ?_⟩; (conv => whnf))
              | (refine ⟨_, _, _, _, rfl, ?_⟩; (conv => whnf))
              | (rw [j10]; (conv => whnf))
              | (refine And.intro (fun c => ?_) (fun c => ?_) <;> (first | (exact absurd c (by decide +kernel)) | (exact absurd c (by assumption)) | (exact False.elim (c (by assumption))) | (conv => whnf)))
              | fail)
            exact x47
      have fin := loop 0 (Nat.zero_le _) (xm_u2 (xm_u2 I 0 9 (nI h)) 0 10 (nI 9)) ((c_s9.rf.u (Or.inl rfl)).u (Or.inr rfl)) (by rw [xm_u2_at, if_neg (by decide), xm_u2_at, if_pos rfl]) (by rw [xm_u2_at, if_pos rfl]; rfl)
      have e0 : g_prac (cG P I L) h p 0 = Int32.ofInt (-1) := xl_m.symm
      rw [e0] at fin
      clear loop
      (conv => whnf)
      repeat' (first
        | ((with_reducible refine @And.intro (vp_in _ _) _ ?_ ?_); (· (first | with_reducible assumption | ((with_reducible refine t_vin ?_); decide) | ((with_reducible refine vp_in_nI ?_ ?_) <;> first | omega | decide) | (simp (disch := omega) only [xl_n, xl_m, nI_dec, nI_sb, nI_add, pk_mul]; (with_reducible refine vp_in_nI ?_ ?_) <;> first | omega | decide))); (conv => whnf))
        | (refine And.intro (by first | with_reducible assumption | exact (show cL _ _ = _ from rfl) | decide) ?_; (conv => whnf))
        | ((with_reducible refine @And.intro (_ = _) _ ?_ ?_); (· rfl); (conv => whnf))
        | ((with_reducible refine @And.intro (@LE.le Nat _ _ _) _ ?_ ?_); (· (first | exact Nat.zero_le _ | exact Nat.le_of_ble_eq_true rfl | omega)); (conv => whnf))
        | ((with_reducible refine @And.intro (@LT.lt Nat _ _ _) _ ?_ ?_); (· omega); (conv => whnf))
        | ((with_reducible refine @And.intro (∃ _, _ = _) _ ?_ ?_); (· exact ⟨_, rfl⟩); (conv => whnf))
        | ((with_reducible refine @And.intro (_ ∨ _) _ ?_ ?_); (· (first | exact Or.inl rfl | exact Or.inr rfl | exact t_b01 _ | assumption)); (conv => whnf))
        | ((with_reducible refine @And.intro (¬ (_ = _)) _ ?_ ?_); (· first | assumption | (with_reducible assumption)); (conv => whnf))
        | (refine hX _ _ _ _ _ _ ?_; (conv => whnf); fail_if_success show False)
        | (rw [c_si]; (conv => whnf))
        | (refine ⟨_, rfl, ?_⟩; (conv => whnf))
        | (refine ⟨_, _, rfl, ?_⟩; (conv => whnf))
        | (refine ⟨_, _, _, rfl, ?_⟩; (conv => whnf))
        | (refine ⟨_, _, _, _, rfl, ?_⟩; (conv => whnf))
        | (refine And.intro (fun c => ?_) (fun c => ?_) <;> (first | (exact absurd c (by decide +kernel)) | (conv => whnf)))
        | fail)
      exact fin
    · refine c_ref0 hQ hg ?_ hx n1_0
      rw [f, Bool.true_and]
      exact e2
  · refine c_ref0 hQ hg ?_ hx n1_0
    rw [show g_isH (cG P I L) a = false from e]
    rfl
theorem ct_X1_practise : xm_Ct cI yX1_practise (ws_ yX1_practise cX1_practise 4 (some .int)) 162 2 12 S_X1_practise := xm_enter (rt := 0) (init := false) (by decide +kernel) rfl (fun h => by cases h) (Or.inl ⟨rfl, rfl⟩) (oX1_practise) body_X1_practise
theorem cv_X1_practise {own : String} {cc : ByteArray} {fr pc idx : Nat} (hdg : decode cc pc = .ok (.invokevirtual idx, 3)) (hl : xm_ml own idx yX1_practise) (hfr : 162 < fr) : xm_CallOK cI own cc fr pc (pc + 3) 3 2 12 (xm_this 0 S_X1_practise) := xm_callV 0 cI_good (ct_X1_practise) hdg hl q1838 q1839 q116 q1840 rfl rfl (by decide +kernel) hfr (by decide)
