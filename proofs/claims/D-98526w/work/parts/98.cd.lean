/-! ===== a troupe: small methods ===== -/
set_option maxRecDepth 100000
/-! what is told, as the pure words have it; L: the codes of the law -/
def c_limp (I : tI) (h : Nat) : Int32 := if nI h = I 0 9 then I 0 10 else I 30 h
def cK (I : tI) (L : List lC) : gK := (c_h I, c_p I, (fun h => if h < c_h I then c_limp I h else nI 0), (fun h => if h < c_h I then I 31 h else nI 0), (fun h => if h < c_h I then I 32 h else nI 0), (fun p => if p < c_p I then I 35 p else nI 0), (fun p => if p < c_p I then I 36 p else nI 0), (fun p => if p < c_p I then I 39 p else nI 0), I 1 13, l_val L)
theorem cK_n {I : tI} {L : List lC} : gn (cK I L) = c_h I := rfl
theorem cK_m {I : tI} {L : List lC} : gm (cK I L) = c_p I := rfl
theorem cK_limp {I : tI} {L : List lC} {h : Nat} (hh : h < c_h I) : glimp (cK I L) h = c_limp I h := by simp [glimp, cK, hh]
theorem cK_born {I : tI} {L : List lC} {h : Nat} (hh : h < c_h I) : gborn (cK I L) h = I 31 h := by simp [gborn, cK, hh]
theorem cK_dies {I : tI} {L : List lC} {h : Nat} (hh : h < c_h I) : gdies (cK I L) h = I 32 h := by simp [gdies, cK, hh]
theorem cK_fall {I : tI} {L : List lC} {p : Nat} (hp : p < c_p I) : gfall (cK I L) p = I 35 p := by simp [gfall, cK, hp]
theorem cK_needs {I : tI} {L : List lC} {p : Nat} (hp : p < c_p I) : gneeds (cK I L) p = I 36 p := by simp [gneeds, cK, hp]
theorem cK_quar {I : tI} {L : List lC} {p : Nat} (hp : p < c_p I) : gquar (cK I L) p = I 39 p := by simp [gquar, cK, hp]
theorem cK_wear {I : tI} {L : List lC} : gwear (cK I L) = I 1 13 := rfl
theorem cK_law {I : tI} {L : List lC} : glaw (cK I L) = l_val L := rfl
theorem cA_gw {I : tI} {r p : Nat} (hp : p < 8) : gw (cA I r) p = I (10 * r + 1) p := by simp [gw, cA, hp]
theorem cA_gs {I : tI} {r p : Nat} (hp : p < 8) : gs (cA I r) p = I (10 * r + 3) p := by simp [gs, cA, hp]
theorem cA_gl {I : tI} {r p : Nat} (hp : p < 8) : gl (cA I r) p = I (10 * r + 2) p := by simp [gl, cA, hp]
theorem cA_gsi {I : tI} {r h p : Nat} (hh : h < 9) (hp : p < 8) : gsi (cA I r) h p = I (10 * r + 4) (8 * h + p) := by simp [gsi, cA, hh, hp]
theorem cA_gc {I : tI} {r h : Nat} (hh : h < 9) : gc (cA I r) h = I (10 * r + 5) h := by simp [gc, cA, hh]
theorem cA_gd {I : tI} {r h : Nat} (hh : h < 9) : gd (cA I r) h = decide (I (10 * r) h = nI 2) := by simp [gd, cA, hh]
theorem cA_gy {I : tI} {r : Nat} : gy (cA I r) = I r 6 := rfl
/-- how each hand is, agrees with its birth and the year -/
def c_is (I : tI) (r : Nat) : Prop := ∀ h, h < c_h I → I (10 * r) h = if gd (cA I r) h = true then nI 2 else if I 31 h ≤ I r 6 then nI 1 else nI 0
theorem c_is_al {I : tI} {r h : Nat} {L : List lC} (hi : c_is I r) (hh : h < c_h I) : (I (10 * r) h = nI 1) = (g_al (cK I L) (cA I r) h = true) := by
  rw [hi h hh]
  unfold g_al
  rw [cK_born hh, cA_gy]
  cases gd (cA I r) h with
  | true => simp; decide +kernel
  | false =>
    simp only [Bool.false_eq_true, if_false, Bool.not_false, Bool.and_true, decide_eq_true_eq]
    by_cases q : I 31 h ≤ I r 6
    · rw [if_pos q]
      exact propext ⟨fun _ => q, fun _ => rfl⟩
    · rw [if_neg q]
      exact propext ⟨fun h => absurd h (by decide +kernel), fun h => absurd h q⟩
/-- of hands alone -/
def c_m9 (I : tI) (r : Nat) : Prop := ∀ p, p < 8 → t_m9 (I (10 * r + 1) p)
abbrev bX10_isOf_0 : List xE := [(.aload_n 0, 1, 0, 0, 0), (.getfield 19, 4, 7, 1, 1), (.iload_n 1, 5, 0, 0, 0), (.iaload, 6, 0, 0, 0), (.iload_n 2, 7, 0, 0, 0), (.ishr, 8, 0, 0, 0), (.iconst 1, 9, 0, 0, 0), (.iand, 10, 0, 0, 0), (.iconst 1, 11, 0, 0, 0), (.if_icmp .ne 7, 14, 0, 18, 0), (.iconst 1, 15, 0, 0, 0), (.goto 4, 18, 0, 19, 0)]
abbrev bX10_isOf_18 : List xE := [(.iconst 0, 19, 0, 0, 0)]
abbrev bX10_isOf_19 : List xE := [(.ireturn, 20, 0, 0, 0)]
abbrev kX10_isOf : List (Nat × List xE) := [(0, bX10_isOf_0), (18, bX10_isOf_18), (19, bX10_isOf_19)]
abbrev lX10_isOf : List (Nat × Nat × Nat × xS) := []
theorem oX10_isOf_0  : xm_okb cI RX10 cX10_isOf false 1 lX10_isOf bX10_isOf_0 0 := xo_0 dX10_isOf_0 rfl trivial (xo_1 dX10_isOf_1 rfl (xm_fg_of (Or.inl q664) (by decide) rfl (by decide) rfl rfl (Or.inl rfl) rfl) (xo_0 dX10_isOf_4 rfl trivial (xo_0 dX10_isOf_5 rfl trivial (xo_0 dX10_isOf_6 rfl trivial (xo_0 dX10_isOf_7 rfl trivial (xo_0 dX10_isOf_8 rfl trivial (xo_0 dX10_isOf_9 rfl trivial (xo_0 dX10_isOf_10 rfl trivial (xo_0 dX10_isOf_11 rfl rfl (xo_0 dX10_isOf_14 rfl trivial (xo_0 dX10_isOf_15 rfl rfl (xo_n))))))))))))
theorem oX10_isOf_18  : xm_okb cI RX10 cX10_isOf false 1 lX10_isOf bX10_isOf_18 18 := xo_0 dX10_isOf_18 rfl trivial (xo_n)
theorem oX10_isOf_19  : xm_okb cI RX10 cX10_isOf false 1 lX10_isOf bX10_isOf_19 19 := xo_0 dX10_isOf_19 rfl trivial (xo_n)
theorem oX10_isOf  : ∀ q ∈ kX10_isOf, xm_okb cI RX10 cX10_isOf false 1 lX10_isOf q.2 q.1 := by
  intro q hq
  simp only [List.mem_cons, List.not_mem_nil, or_false] at hq
  rcases hq with rfl | rfl | rfl
  · exact oX10_isOf_0  
  · exact oX10_isOf_18  
  · exact oX10_isOf_19  
def S_X10_isOf : xS := cU fun as P X I Q QX => ∃ r p h, as = [.ref r, .int (nI p), .int (nI h)] ∧ c_tr P r ∧ p < 8 ∧ Q (some (.int (t_b (t_has (I (10 * r + 1) p) h)))) I
theorem body_X10_isOf : xm_Body 3 1 0 0 [] lX10_isOf kX10_isOf S_X10_isOf := by
  intro X avs w Q QX hX0 hS
  have hG := xm_go [] hX0
  have hX := xm_go [] hX0
  clear hX0
  obtain ⟨P, Z, I, rfl, r, p, h, rfl, hr, hp, hQ⟩ := hS
  refine ⟨rfl, ?_⟩
  repeat' (first
    | ((with_reducible refine @And.intro (vp_in _ _) _ ?_ ?_); (· (first | with_reducible assumption | ((with_reducible refine t_vin ?_); decide) | ((with_reducible refine vp_in_nI ?_ ?_) <;> first | omega | decide) | (simp (disch := omega) only [xl_n, xl_m, nI_dec, nI_sb, nI_add, pk_mul]; (with_reducible refine vp_in_nI ?_ ?_) <;> first | omega | decide))); (conv => whnf))
    | (refine And.intro (by first | with_reducible assumption | exact (show cL _ _ = _ from rfl) | decide) ?_; (conv => whnf))
    | ((with_reducible refine @And.intro (_ = _) _ ?_ ?_); (· rfl); (conv => whnf))
    | ((with_reducible refine @And.intro (@LE.le Nat _ _ _) _ ?_ ?_); (· (first | exact Nat.zero_le _ | exact Nat.le_of_ble_eq_true rfl | omega)); (conv => whnf))
    | ((with_reducible refine @And.intro (@LT.lt Nat _ _ _) _ ?_ ?_); (· omega); (conv => whnf))
    | ((with_reducible refine @And.intro (∃ _, _ = _) _ ?_ ?_); (· exact ⟨_, rfl⟩); (conv => whnf))
    | ((with_reducible refine @And.intro (_ ∨ _) _ ?_ ?_); (· (first | exact Or.inl rfl | exact Or.inr rfl | exact t_b01 _ | assumption)); (conv => whnf))
    | ((with_reducible refine @And.intro (¬ (_ = _)) _ ?_ ?_); (· first | assumption | (with_reducible assumption)); (conv => whnf))
    | (refine hX _ _ _ _ _ _ ?_; (conv => whnf); fail_if_success show False)
    | (rw [c_si]; (conv => whnf))
    | (refine ⟨_, rfl, ?_⟩; (conv => whnf))
    | (refine ⟨_, _, rfl, ?_⟩; (conv => whnf))
    | (refine ⟨_, _, _, rfl, ?_⟩; (conv => whnf))
    | (refine ⟨_, _, _, _, rfl, ?_⟩; (conv => whnf))
    | (rw [c_tl hr]; (conv => whnf))
    | (rw [c_t7 hr]; (conv => whnf))
    | (rw [c_tf hr (by decide)]; (conv => whnf))
    | (rw [c_t0 hr]; (conv => whnf))
    | (rw [c_t1 hr]; (conv => whnf))
    | (rw [c_t2 hr]; (conv => whnf))
    | (rw [c_t3 hr]; (conv => whnf))
    | (rw [c_t4 hr]; (conv => whnf))
    | (rw [c_t5 hr]; (conv => whnf))
    | (refine And.intro ⟨_, c_tl hr⟩ ?_; (conv => whnf))
    | (refine And.intro (fun c => ?_) (fun c => ?_) <;> (first | (exact absurd c (by decide +kernel)) | (conv => whnf)))
    | fail)
  all_goals refine t_q hQ ?_
  all_goals clear hX hG
  all_goals simp (disch := omega) only [xl_n, xl_m, nI_dec, nI_sb, xl_0, xl_1, cW_i, Nat.add_zero, Nat.reduceAdd, Nat.reduceMul, t_bn0, t_bn1, Classical.not_not, t_lt, nI_add, nI_1, pk_mul, nI_clamp, c_si, nI_eq, nI_leI, nM_ne, nM_ne] at *
  · simp [*, t_has, t_bf]
  · simp [*, t_has, t_bt]
theorem ct_X10_isOf : xm_Ct cI yX10_isOf (ws_ yX10_isOf cX10_isOf 3 (some .boolean)) 1 0 0 S_X10_isOf := xm_enter (rt := 1) (init := false) (by decide +kernel) rfl (fun h => by cases h) (Or.inr (Or.inl ⟨rfl, Or.inl rfl⟩)) (oX10_isOf) body_X10_isOf
theorem cv_X10_isOf {own : String} {cc : ByteArray} {fr pc idx : Nat} (hdg : decode cc pc = .ok (.invokevirtual idx, 3)) (hl : xm_ml own idx yX10_isOf) (hfr : 1 < fr) : xm_CallOK cI own cc fr pc (pc + 3) 3 0 0 (xm_this 7 S_X10_isOf) := xm_callV 7 cI_good (ct_X10_isOf) hdg hl q704 q705 q144 q706 rfl rfl (by decide +kernel) hfr (by decide)
abbrev bX10_workedBy_0 : List xE := [(.iconst 0, 1, 0, 0, 0), (.istore_n 2, 2, 0, 0, 0), (.iconst 0, 3, 0, 0, 0), (.istore_n 3, 4, 0, 0, 0)]
abbrev bX10_workedBy_4 : List xE := [(.iload_n 3, 5, 0, 0, 0), (.aload_n 0, 6, 0, 0, 0), (.getfield 3, 9, 7, 7, 1), (.getfield 38, 12, 0, 0, 1), (.getfield 64, 15, 1, 12, 0), (.if_icmp .ge 28, 18, 0, 43, 0), (.iload_n 2, 19, 0, 0, 0), (.aload_n 0, 20, 0, 0, 0), (.iload_n 3, 21, 0, 0, 0), (.iload_n 1, 22, 0, 0, 0), (.invokevirtual 54, 25, 0, 0, 9), (.ifCond .eq 9, 28, 0, 34, 0), (.iconst 1, 29, 0, 0, 0), (.iload_n 3, 30, 0, 0, 0), (.ishl, 31, 0, 0, 0), (.goto 4, 34, 0, 35, 0)]
abbrev bX10_workedBy_34 : List xE := [(.iconst 0, 35, 0, 0, 0)]
abbrev bX10_workedBy_35 : List xE := [(.ior, 36, 0, 0, 0), (.istore_n 2, 37, 0, 0, 0), (.iinc 3 1, 40, 0, 0, 0), (.goto (-36), 43, 0, 4, 0)]
abbrev bX10_workedBy_43 : List xE := [(.iload_n 2, 44, 0, 0, 0), (.ireturn, 45, 0, 0, 0)]
abbrev kX10_workedBy : List (Nat × List xE) := [(0, bX10_workedBy_0), (4, bX10_workedBy_4), (34, bX10_workedBy_34), (35, bX10_workedBy_35), (43, bX10_workedBy_43)]
abbrev lX10_workedBy : List (Nat × Nat × Nat × xS) := [(3, 0, 0, xm_this 7 S_X10_isOf)]
theorem oX10_workedBy_0  : xm_okb cI RX10 cX10_workedBy false 2 lX10_workedBy bX10_workedBy_0 0 := xo_0 dX10_workedBy_0 rfl trivial (xo_0 dX10_workedBy_1 rfl trivial (xo_0 dX10_workedBy_2 rfl trivial (xo_0 dX10_workedBy_3 rfl trivial (xo_n))))
theorem oX10_workedBy_4  : xm_okb cI RX10 cX10_workedBy false 2 lX10_workedBy bX10_workedBy_4 4 := xo_0 dX10_workedBy_4 rfl trivial (xo_0 dX10_workedBy_5 rfl trivial (xo_1 dX10_workedBy_6 rfl (xm_fg_of (Or.inl q676) (by decide) rfl (by decide) rfl rfl (Or.inl rfl) rfl) (xo_1 dX10_workedBy_9 rfl (xm_fg_of (Or.inr ⟨_, q717⟩) (by decide) rfl (by decide) rfl rfl (Or.inl rfl) rfl) (xo_0 dX10_workedBy_12 rfl (xm_fg_of (Or.inr ⟨_, q559⟩) (by decide) rfl (by decide) rfl rfl (Or.inl rfl) rfl) (xo_0 dX10_workedBy_15 rfl rfl (xo_0 dX10_workedBy_18 rfl trivial (xo_0 dX10_workedBy_19 rfl trivial (xo_0 dX10_workedBy_20 rfl trivial (xo_0 dX10_workedBy_21 rfl trivial (xo_c rfl (cv_X10_isOf dX10_workedBy_22 (Or.inl q703) (by decide)) (xo_0 dX10_workedBy_25 rfl rfl (xo_0 dX10_workedBy_28 rfl trivial (xo_0 dX10_workedBy_29 rfl trivial (xo_0 dX10_workedBy_30 rfl trivial (xo_0 dX10_workedBy_31 rfl rfl (xo_n))))))))))))))))
theorem oX10_workedBy_34  : xm_okb cI RX10 cX10_workedBy false 2 lX10_workedBy bX10_workedBy_34 34 := xo_0 dX10_workedBy_34 rfl trivial (xo_n)
theorem oX10_workedBy_35  : xm_okb cI RX10 cX10_workedBy false 2 lX10_workedBy bX10_workedBy_35 35 := xo_0 dX10_workedBy_35 rfl trivial (xo_0 dX10_workedBy_36 rfl trivial (xo_0 dX10_workedBy_37 rfl trivial (xo_0 dX10_workedBy_40 rfl rfl (xo_n))))
theorem oX10_workedBy_43  : xm_okb cI RX10 cX10_workedBy false 2 lX10_workedBy bX10_workedBy_43 43 := xo_0 dX10_workedBy_43 rfl trivial (xo_0 dX10_workedBy_44 rfl trivial (xo_n))
theorem oX10_workedBy  : ∀ q ∈ kX10_workedBy, xm_okb cI RX10 cX10_workedBy false 2 lX10_workedBy q.2 q.1 := by
  intro q hq
  simp only [List.mem_cons, List.not_mem_nil, or_false] at hq
  rcases hq with rfl | rfl | rfl | rfl | rfl
  · exact oX10_workedBy_0  
  · exact oX10_workedBy_4  
  · exact oX10_workedBy_34  
  · exact oX10_workedBy_35  
  · exact oX10_workedBy_43  
def S_X10_workedBy : xS := cU fun as P X I Q QX => ∃ r h, as = [.ref r, .int (nI h)] ∧ c_tr P r ∧ c_ok I ∧ Q (some (.int (t_or (c_p I) (fun p => t_has (gw (cA I r) p) h)))) I
theorem body_X10_workedBy : xm_Body 4 0 0 0 [] lX10_workedBy kX10_workedBy S_X10_workedBy := by
  intro X avs w Q QX hX0 hS
  have hG := xm_go [] hX0
  have hX := xm_go [4] hX0
  clear hX0
  obtain ⟨P, Z, I, rfl, r, h, rfl, hr, hok, hQ⟩ := hS
  obtain ⟨-, -, hn, h8⟩ := id hok
  have loop : ∀ k, k ≤ c_p I → X 4 [some (.ref r), some (.int (nI h)), some (.int (t_or k (fun p => t_has (gw (cA I r) p) h))), some (.int (nI k))] [] (cW P Z I) 0 0 := by
    refine t_for fun k h1 ih => ?_
    refine hG _ _ _ _ _ _ ?_
    (conv => whnf)
    repeat' (first
      | ((with_reducible refine @And.intro (vp_in _ _) _ ?_ ?_); (· (first | with_reducible assumption | ((with_reducible refine t_vin ?_); decide) | ((with_reducible refine vp_in_nI ?_ ?_) <;> first | omega | decide) | (simp (disch := omega) only [xl_n, xl_m, nI_dec, nI_sb, nI_add, pk_mul]; (with_reducible refine vp_in_nI ?_ ?_) <;> first | omega | decide))); (conv => whnf))
      | (refine And.intro (by first | with_reducible assumption | exact (show cL _ _ = _ from rfl) | decide) ?_; (conv => whnf))
      | ((with_reducible refine @And.intro (_ = _) _ ?_ ?_); (· rfl); (conv => whnf))
      | ((with_reducible refine @And.intro (@LE.le Nat _ _ _) _ ?_ ?_); (· (first | exact Nat.zero_le _ | exact Nat.le_of_ble_eq_true rfl | omega)); (conv => whnf))
      | ((with_reducible refine @And.intro (@LT.lt Nat _ _ _) _ ?_ ?_); (· omega); (conv => whnf))
      | ((with_reducible refine @And.intro (∃ _, _ = _) _ ?_ ?_); (· exact ⟨_, rfl⟩); (conv => whnf))
      | ((with_reducible refine @And.intro (_ ∨ _) _ ?_ ?_); (· (first | exact Or.inl rfl | exact Or.inr rfl | exact t_b01 _ | assumption)); (conv => whnf))
      | ((with_reducible refine @And.intro (¬ (_ = _)) _ ?_ ?_); (· first | assumption | (with_reducible assumption)); (conv => whnf))
      | (refine hX _ _ _ _ _ _ ?_; (conv => whnf); fail_if_success show False)
      | (rw [c_si]; (conv => whnf))
      | (refine ⟨_, rfl, ?_⟩; (conv => whnf))
      | (refine ⟨_, _, rfl, ?_⟩; (conv => whnf))
      | (refine ⟨_, _, _, rfl, ?_⟩; (conv => whnf))
      | (refine ⟨_, _, _, _, rfl, ?_⟩; (conv => whnf))
      | (rw [c_tl hr]; (conv => whnf))
      | (rw [c_t7 hr]; (conv => whnf))
      | (rw [c_tf hr (by decide)]; (conv => whnf))
      | (rw [c_t0 hr]; (conv => whnf))
      | (rw [c_t1 hr]; (conv => whnf))
      | (rw [c_t2 hr]; (conv => whnf))
      | (rw [c_t3 hr]; (conv => whnf))
      | (rw [c_t4 hr]; (conv => whnf))
      | (rw [c_t5 hr]; (conv => whnf))
      | (refine And.intro ⟨_, c_tl hr⟩ ?_; (conv => whnf))
      | fail)
    refine And.intro (fun c => ?_) (fun c => ?_) <;> (conv => whnf)
    · repeat' (first
        | ((with_reducible refine @And.intro (vp_in _ _) _ ?_ ?_); (· (first | with_reducible assumption | ((with_reducible refine t_vin ?_); decide) | ((with_reducible refine vp_in_nI ?_ ?_) <;> first | omega | decide) | (simp (disch := omega) only [xl_n, xl_m, nI_dec, nI_sb, nI_add, pk_mul]; (with_reducible refine vp_in_nI ?_ ?_) <;> first | omega | decide))); (conv => whnf))
        | (refine And.intro (by first | with_reducible assumption | exact (show cL _ _ = _ from rfl) | decide) ?_; (conv => whnf))
        | ((with_reducible refine @And.intro (_ = _) _ ?_ ?_); (· rfl); (conv => whnf))
        | ((with_reducible refine @And.intro (@LE.le Nat _ _ _) _ ?_ ?_); (· (first | exact Nat.zero_le _ | exact Nat.le_of_ble_eq_true rfl | omega)); (conv => whnf))
        | ((with_reducible refine @And.intro (@LT.lt Nat _ _ _) _ ?_ ?_); (· omega); (conv => whnf))
        | ((with_reducible refine @And.intro (∃ _, _ = _) _ ?_ ?_); (· exact ⟨_, rfl⟩); (conv => whnf))
        | ((with_reducible refine @And.intro (_ ∨ _) _ ?_ ?_); (· (first | exact Or.inl rfl | exact Or.inr rfl | exact t_b01 _ | assumption)); (conv => whnf))
        | ((with_reducible refine @And.intro (¬ (_ = _)) _ ?_ ?_); (· first | assumption | (with_reducible assumption)); (conv => whnf))
        | (refine hX _ _ _ _ _ _ ?_; (conv => whnf); fail_if_success show False)
        | (rw [c_si]; (conv => whnf))
        | (refine ⟨_, rfl, ?_⟩; (conv => whnf))
        | (refine ⟨_, _, rfl, ?_⟩; (conv => whnf))
        | (refine ⟨_, _, _, rfl, ?_⟩; (conv => whnf))
        | (refine ⟨_, _, _, _, rfl, ?_⟩; (conv => whnf))
        | fail)
      have : k = c_p I := Nat.le_antisymm h1 (t_kge hn c (by omega) (by omega))
      subst this
      exact hQ
    · have hk : k < c_p I := t_klt hn c (by omega)
      repeat' (first
        | ((with_reducible refine @And.intro (vp_in _ _) _ ?_ ?_); (· (first | with_reducible assumption | ((with_reducible refine t_vin ?_); decide) | ((with_reducible refine vp_in_nI ?_ ?_) <;> first | omega | decide) | (simp (disch := omega) only [xl_n, xl_m, nI_dec, nI_sb, nI_add, pk_mul]; (with_reducible refine vp_in_nI ?_ ?_) <;> first | omega | decide))); (conv => whnf))
        | (refine And.intro (by first | with_reducible assumption | exact (show cL _ _ = _ from rfl) | decide) ?_; (conv => whnf))
        | ((with_reducible refine @And.intro (_ = _) _ ?_ ?_); (· rfl); (conv => whnf))
        | ((with_reducible refine @And.intro (@LE.le Nat _ _ _) _ ?_ ?_); (· (first | exact Nat.zero_le _ | exact Nat.le_of_ble_eq_true rfl | omega)); (conv => whnf))
        | ((with_reducible refine @And.intro (@LT.lt Nat _ _ _) _ ?_ ?_); (· omega); (conv => whnf))
        | ((with_reducible refine @And.intro (∃ _, _ = _) _ ?_ ?_); (· exact ⟨_, rfl⟩); (conv => whnf))
        | ((with_reducible refine @And.intro (_ ∨ _) _ ?_ ?_); (· (first | exact Or.inl rfl | exact Or.inr rfl | exact t_b01 _ | assumption)); (conv => whnf))
        | ((with_reducible refine @And.intro (¬ (_ = _)) _ ?_ ?_); (· first | assumption | (with_reducible assumption)); (conv => whnf))
        | (refine hX _ _ _ _ _ _ ?_; (conv => whnf); fail_if_success show False)
        | (rw [c_si]; (conv => whnf))
        | (refine ⟨_, rfl, ?_⟩; (conv => whnf))
        | (refine ⟨_, _, rfl, ?_⟩; (conv => whnf))
        | (refine ⟨_, _, _, rfl, ?_⟩; (conv => whnf))
        | (refine ⟨_, _, _, _, rfl, ?_⟩; (conv => whnf))
        | (rw [c_tl hr]; (conv => whnf))
        | (rw [c_t7 hr]; (conv => whnf))
        | (rw [c_tf hr (by decide)]; (conv => whnf))
        | (rw [c_t0 hr]; (conv => whnf))
        | (rw [c_t1 hr]; (conv => whnf))
        | (rw [c_t2 hr]; (conv => whnf))
        | (rw [c_t3 hr]; (conv => whnf))
        | (rw [c_t4 hr]; (conv => whnf))
        | (rw [c_t5 hr]; (conv => whnf))
        | (refine And.intro ⟨_, c_tl hr⟩ ?_; (conv => whnf))
        | (refine And.intro (fun c => ?_) (fun c => ?_) <;> (first | (exact absurd c (by decide +kernel)) | (conv => whnf)))
        | fail)
      all_goals simp (disch := omega) only [xl_n, xl_m, nI_dec, nI_sb, xl_0, xl_1, cW_i, Nat.add_zero, Nat.reduceAdd, Nat.reduceMul, t_bn0, t_bn1, Classical.not_not, t_lt, nI_add, nI_1, pk_mul, nI_clamp, c_si, nI_eq, nI_leI, nM_ne, nM_ne, xm_set, xm_lv0, xm_psh] at *
      all_goals have := ih (k + 1) (by omega) (by omega)
      all_goals rw [t_or_s, cA_gw (by omega)] at this
      all_goals simpa [t_bit, c] using this
  refine ⟨rfl, ?_⟩
  repeat' (first
    | ((with_reducible refine @And.intro (vp_in _ _) _ ?_ ?_); (· (first | with_reducible assumption | ((with_reducible refine t_vin ?_); decide) | ((with_reducible refine vp_in_nI ?_ ?_) <;> first | omega | decide) | (simp (disch := omega) only [xl_n, xl_m, nI_dec, nI_sb, nI_add, pk_mul]; (with_reducible refine vp_in_nI ?_ ?_) <;> first | omega | decide))); (conv => whnf))
    | (refine And.intro (by first | with_reducible assumption | exact (show cL _ _ = _ from rfl) | decide) ?_; (conv => whnf))
    | ((with_reducible refine @And.intro (_ = _) _ ?_ ?_); (· rfl); (conv => whnf))
    | ((with_reducible refine @And.intro (@LE.le Nat _ _ _) _ ?_ ?_); (· (first | exact Nat.zero_le _ | exact Nat.le_of_ble_eq_true rfl | omega)); (conv => whnf))
    | ((with_reducible refine @And.intro (@LT.lt Nat _ _ _) _ ?_ ?_); (· omega); (conv => whnf))
    | ((with_reducible refine @And.intro (∃ _, _ = _) _ ?_ ?_); (· exact ⟨_, rfl⟩); (conv => whnf))
    | ((with_reducible refine @And.intro (_ ∨ _) _ ?_ ?_); (· (first | exact Or.inl rfl | exact Or.inr rfl | exact t_b01 _ | assumption)); (conv => whnf))
    | ((with_reducible refine @And.intro (¬ (_ = _)) _ ?_ ?_); (· first | assumption | (with_reducible assumption)); (conv => whnf))
    | (refine hX _ _ _ _ _ _ ?_; (conv => whnf); fail_if_success show False)
    | (rw [c_si]; (conv => whnf))
    | (refine ⟨_, rfl, ?_⟩; (conv => whnf))
    | (refine ⟨_, _, rfl, ?_⟩; (conv => whnf))
    | (refine ⟨_, _, _, rfl, ?_⟩; (conv => whnf))
    | (refine ⟨_, _, _, _, rfl, ?_⟩; (conv => whnf))
    | (refine And.intro (fun c => ?_) (fun c => ?_) <;> (first | (exact absurd c (by decide +kernel)) | (conv => whnf)))
    | fail)
  exact loop 0 (Nat.zero_le _)
theorem ct_X10_workedBy : xm_Ct cI yX10_workedBy (ws_ yX10_workedBy cX10_workedBy 4 (some .int)) 2 0 0 S_X10_workedBy := xm_enter (rt := 0) (init := false) (by decide +kernel) rfl (fun h => by cases h) (Or.inl ⟨rfl, rfl⟩) (oX10_workedBy) body_X10_workedBy
theorem cv_X10_workedBy {own : String} {cc : ByteArray} {fr pc idx : Nat} (hdg : decode cc pc = .ok (.invokevirtual idx, 3)) (hl : xm_ml own idx yX10_workedBy) (hfr : 2 < fr) : xm_CallOK cI own cc fr pc (pc + 3) 2 0 0 (xm_this 7 S_X10_workedBy) := xm_callV 7 cI_good (ct_X10_workedBy) hdg hl q889 q890 q144 q891 rfl rfl (by decide +kernel) hfr (by decide)
abbrev bX10_alive_0 : List xE := [(.iconst 0, 1, 0, 0, 0), (.istore_n 1, 2, 0, 0, 0), (.iconst 0, 3, 0, 0, 0), (.istore_n 2, 4, 0, 0, 0)]
abbrev bX10_alive_4 : List xE := [(.iload_n 2, 5, 0, 0, 0), (.aload_n 0, 6, 0, 0, 0), (.getfield 3, 9, 7, 7, 1), (.getfield 38, 12, 0, 0, 1), (.getfield 42, 15, 1, 11, 0), (.if_icmp .ge 29, 18, 0, 44, 0), (.iload_n 1, 19, 0, 0, 0), (.aload_n 0, 20, 0, 0, 0), (.getfield 15, 23, 7, 0, 1), (.iload_n 2, 24, 0, 0, 0), (.iaload, 25, 0, 0, 0), (.iconst 1, 26, 0, 0, 0), (.if_icmp .ne 9, 29, 0, 35, 0), (.iconst 1, 30, 0, 0, 0), (.iload_n 2, 31, 0, 0, 0), (.ishl, 32, 0, 0, 0), (.goto 4, 35, 0, 36, 0)]
abbrev bX10_alive_35 : List xE := [(.iconst 0, 36, 0, 0, 0)]
abbrev bX10_alive_36 : List xE := [(.ior, 37, 0, 0, 0), (.istore_n 1, 38, 0, 0, 0), (.iinc 2 1, 41, 0, 0, 0), (.goto (-37), 44, 0, 4, 0)]
abbrev bX10_alive_44 : List xE := [(.iload_n 1, 45, 0, 0, 0), (.ireturn, 46, 0, 0, 0)]
abbrev kX10_alive : List (Nat × List xE) := [(0, bX10_alive_0), (4, bX10_alive_4), (35, bX10_alive_35), (36, bX10_alive_36), (44, bX10_alive_44)]
abbrev lX10_alive : List (Nat × Nat × Nat × xS) := []
theorem oX10_alive_0  : xm_okb cI RX10 cX10_alive false 1 lX10_alive bX10_alive_0 0 := xo_0 dX10_alive_0 rfl trivial (xo_0 dX10_alive_1 rfl trivial (xo_0 dX10_alive_2 rfl trivial (xo_0 dX10_alive_3 rfl trivial (xo_n))))
theorem oX10_alive_4  : xm_okb cI RX10 cX10_alive false 1 lX10_alive bX10_alive_4 4 := xo_0 dX10_alive_4 rfl trivial (xo_0 dX10_alive_5 rfl trivial (xo_1 dX10_alive_6 rfl (xm_fg_of (Or.inl q676) (by decide) rfl (by decide) rfl rfl (Or.inl rfl) rfl) (xo_1 dX10_alive_9 rfl (xm_fg_of (Or.inr ⟨_, q717⟩) (by decide) rfl (by decide) rfl rfl (Or.inl rfl) rfl) (xo_0 dX10_alive_12 rfl (xm_fg_of (Or.inr ⟨_, q553⟩) (by decide) rfl (by decide) rfl rfl (Or.inl rfl) rfl) (xo_0 dX10_alive_15 rfl rfl (xo_0 dX10_alive_18 rfl trivial (xo_0 dX10_alive_19 rfl trivial (xo_1 dX10_alive_20 rfl (xm_fg_of (Or.inl q662) (by decide) rfl (by decide) rfl rfl (Or.inl rfl) rfl) (xo_0 dX10_alive_23 rfl trivial (xo_0 dX10_alive_24 rfl trivial (xo_0 dX10_alive_25 rfl trivial (xo_0 dX10_alive_26 rfl rfl (xo_0 dX10_alive_29 rfl trivial (xo_0 dX10_alive_30 rfl trivial (xo_0 dX10_alive_31 rfl trivial (xo_0 dX10_alive_32 rfl rfl (xo_n)))))))))))))))))
theorem oX10_alive_35  : xm_okb cI RX10 cX10_alive false 1 lX10_alive bX10_alive_35 35 := xo_0 dX10_alive_35 rfl trivial (xo_n)
theorem oX10_alive_36  : xm_okb cI RX10 cX10_alive false 1 lX10_alive bX10_alive_36 36 := xo_0 dX10_alive_36 rfl trivial (xo_0 dX10_alive_37 rfl trivial (xo_0 dX10_alive_38 rfl trivial (xo_0 dX10_alive_41 rfl rfl (xo_n))))
theorem oX10_alive_44  : xm_okb cI RX10 cX10_alive false 1 lX10_alive bX10_alive_44 44 := xo_0 dX10_alive_44 rfl trivial (xo_0 dX10_alive_45 rfl trivial (xo_n))
theorem oX10_alive  : ∀ q ∈ kX10_alive, xm_okb cI RX10 cX10_alive false 1 lX10_alive q.2 q.1 := by
  intro q hq
  simp only [List.mem_cons, List.not_mem_nil, or_false] at hq
  rcases hq with rfl | rfl | rfl | rfl | rfl
  · exact oX10_alive_0  
  · exact oX10_alive_4  
  · exact oX10_alive_35  
  · exact oX10_alive_36  
  · exact oX10_alive_44  
def S_X10_alive : xS := cU fun as P X I Q QX => ∃ r, as = [.ref r] ∧ c_tr P r ∧ c_ok I ∧ c_is I r ∧ Q (some (.int (t_or (c_h I) (fun h => decide (I (10 * r) h = nI 1))))) I
theorem body_X10_alive : xm_Body 3 0 0 0 [] lX10_alive kX10_alive S_X10_alive := by
  intro X avs w Q QX hX0 hS
  have hG := xm_go [] hX0
  have hX := xm_go [4] hX0
  clear hX0
  obtain ⟨P, Z, I, rfl, r, rfl, hr, hok, his, hQ⟩ := hS
  obtain ⟨hn, h9, -⟩ := id hok
  have loop : ∀ k, k ≤ c_h I → X 4 [some (.ref r), some (.int (t_or k (fun h => decide (I (10 * r) h = nI 1)))), some (.int (nI k))] [] (cW P Z I) 0 0 := by
    refine t_for fun k h1 ih => ?_
    refine hG _ _ _ _ _ _ ?_
    (conv => whnf)
    repeat' (first
      | ((with_reducible refine @And.intro (vp_in _ _) _ ?_ ?_); (· (first | with_reducible assumption | ((with_reducible refine t_vin ?_); decide) | ((with_reducible refine vp_in_nI ?_ ?_) <;> first | omega | decide) | (simp (disch := omega) only [xl_n, xl_m, nI_dec, nI_sb, nI_add, pk_mul]; (with_reducible refine vp_in_nI ?_ ?_) <;> first | omega | decide))); (conv => whnf))
      | (refine And.intro (by first | with_reducible assumption | exact (show cL _ _ = _ from rfl) | decide) ?_; (conv => whnf))
      | ((with_reducible refine @And.intro (_ = _) _ ?_ ?_); (· rfl); (conv => whnf))
      | ((with_reducible refine @And.intro (@LE.le Nat _ _ _) _ ?_ ?_); (· (first | exact Nat.zero_le _ | exact Nat.le_of_ble_eq_true rfl | omega)); (conv => whnf))
      | ((with_reducible refine @And.intro (@LT.lt Nat _ _ _) _ ?_ ?_); (· omega); (conv => whnf))
      | ((with_reducible refine @And.intro (∃ _, _ = _) _ ?_ ?_); (· exact ⟨_, rfl⟩); (conv => whnf))
      | ((with_reducible refine @And.intro (_ ∨ _) _ ?_ ?_); (· (first | exact Or.inl rfl | exact Or.inr rfl | exact t_b01 _ | assumption)); (conv => whnf))
      | ((with_reducible refine @And.intro (¬ (_ = _)) _ ?_ ?_); (· first | assumption | (with_reducible assumption)); (conv => whnf))
      | (refine hX _ _ _ _ _ _ ?_; (conv => whnf); fail_if_success show False)
      | (rw [c_si]; (conv => whnf))
      | (refine ⟨_, rfl, ?_⟩; (conv => whnf))
      | (refine ⟨_, _, rfl, ?_⟩; (conv => whnf))
      | (refine ⟨_, _, _, rfl, ?_⟩; (conv => whnf))
      | (refine ⟨_, _, _, _, rfl, ?_⟩; (conv => whnf))
      | (rw [c_tl hr]; (conv => whnf))
      | (rw [c_t7 hr]; (conv => whnf))
      | (rw [c_tf hr (by decide)]; (conv => whnf))
      | (rw [c_t0 hr]; (conv => whnf))
      | (rw [c_t1 hr]; (conv => whnf))
      | (rw [c_t2 hr]; (conv => whnf))
      | (rw [c_t3 hr]; (conv => whnf))
      | (rw [c_t4 hr]; (conv => whnf))
      | (rw [c_t5 hr]; (conv => whnf))
      | (refine And.intro ⟨_, c_tl hr⟩ ?_; (conv => whnf))
      | fail)
    refine And.intro (fun c => ?_) (fun c => ?_) <;> (conv => whnf)
    · repeat' (first
        | ((with_reducible refine @And.intro (vp_in _ _) _ ?_ ?_); (· (first | with_reducible assumption | ((with_reducible refine t_vin ?_); decide) | ((with_reducible refine vp_in_nI ?_ ?_) <;> first | omega | decide) | (simp (disch := omega) only [xl_n, xl_m, nI_dec, nI_sb, nI_add, pk_mul]; (with_reducible refine vp_in_nI ?_ ?_) <;> first | omega | decide))); (conv => whnf))
        | (refine And.intro (by first | with_reducible assumption | exact (show cL _ _ = _ from rfl) | decide) ?_; (conv => whnf))
        | ((with_reducible refine @And.intro (_ = _) _ ?_ ?_); (· rfl); (conv => whnf))
        | ((with_reducible refine @And.intro (@LE.le Nat _ _ _) _ ?_ ?_); (· (first | exact Nat.zero_le _ | exact Nat.le_of_ble_eq_true rfl | omega)); (conv => whnf))
        | ((with_reducible refine @And.intro (@LT.lt Nat _ _ _) _ ?_ ?_); (· omega); (conv => whnf))
        | ((with_reducible refine @And.intro (∃ _, _ = _) _ ?_ ?_); (· exact ⟨_, rfl⟩); (conv => whnf))
        | ((with_reducible refine @And.intro (_ ∨ _) _ ?_ ?_); (· (first | exact Or.inl rfl | exact Or.inr rfl | exact t_b01 _ | assumption)); (conv => whnf))
        | ((with_reducible refine @And.intro (¬ (_ = _)) _ ?_ ?_); (· first | assumption | (with_reducible assumption)); (conv => whnf))
        | (refine hX _ _ _ _ _ _ ?_; (conv => whnf); fail_if_success show False)
        | (rw [c_si]; (conv => whnf))
        | (refine ⟨_, rfl, ?_⟩; (conv => whnf))
        | (refine ⟨_, _, rfl, ?_⟩; (conv => whnf))
        | (refine ⟨_, _, _, rfl, ?_⟩; (conv => whnf))
        | (refine ⟨_, _, _, _, rfl, ?_⟩; (conv => whnf))
        | fail)
      have : k = c_h I := Nat.le_antisymm h1 (t_kge hn c (by omega) (by omega))
      subst this
      exact hQ
    · have hk : k < c_h I := t_klt hn c (by omega)
      repeat' (first
        | ((with_reducible refine @And.intro (vp_in _ _) _ ?_ ?_); (· (first | with_reducible assumption | ((with_reducible refine t_vin ?_); decide) | ((with_reducible refine vp_in_nI ?_ ?_) <;> first | omega | decide) | (simp (disch := omega) only [xl_n, xl_m, nI_dec, nI_sb, nI_add, pk_mul]; (with_reducible refine vp_in_nI ?_ ?_) <;> first | omega | decide))); (conv => whnf))
        | (refine And.intro (by first | with_reducible assumption | exact (show cL _ _ = _ from rfl) | decide) ?_; (conv => whnf))
        | ((with_reducible refine @And.intro (_ = _) _ ?_ ?_); (· rfl); (conv => whnf))
        | ((with_reducible refine @And.intro (@LE.le Nat _ _ _) _ ?_ ?_); (· (first | exact Nat.zero_le _ | exact Nat.le_of_ble_eq_true rfl | omega)); (conv => whnf))
        | ((with_reducible refine @And.intro (@LT.lt Nat _ _ _) _ ?_ ?_); (· omega); (conv => whnf))
        | ((with_reducible refine @And.intro (∃ _, _ = _) _ ?_ ?_); (· exact ⟨_, rfl⟩); (conv => whnf))
        | ((with_reducible refine @And.intro (_ ∨ _) _ ?_ ?_); (· (first | exact Or.inl rfl | exact Or.inr rfl | exact t_b01 _ | assumption)); (conv => whnf))
        | ((with_reducible refine @And.intro (¬ (_ = _)) _ ?_ ?_); (· first | assumption | (with_reducible assumption)); (conv => whnf))
        | (refine hX _ _ _ _ _ _ ?_; (conv => whnf); fail_if_success show False)
        | (rw [c_si]; (conv => whnf))
        | (refine ⟨_, rfl, ?_⟩; (conv => whnf))
        | (refine ⟨_, _, rfl, ?_⟩; (conv => whnf))
        | (refine ⟨_, _, _, rfl, ?_⟩; (conv => whnf))
        | (refine ⟨_, _, _, _, rfl, ?_⟩; (conv => whnf))
        | (rw [c_tl hr]; (conv => whnf))
        | (rw [c_t7 hr]; (conv => whnf))
        | (rw [c_tf hr (by decide)]; (conv => whnf))
        | (rw [c_t0 hr]; (conv => whnf))
        | (rw [c_t1 hr]; (conv => whnf))
        | (rw [c_t2 hr]; (conv => whnf))
        | (rw [c_t3 hr]; (conv => whnf))
        | (rw [c_t4 hr]; (conv => whnf))
        | (rw [c_t5 hr]; (conv => whnf))
        | (refine And.intro ⟨_, c_tl hr⟩ ?_; (conv => whnf))
        | (refine And.intro (fun c => ?_) (fun c => ?_) <;> (first | (exact absurd c (by decide +kernel)) | (conv => whnf)))
        | fail)
      all_goals simp (disch := omega) only [xl_n, xl_m, nI_dec, nI_sb, xl_0, xl_1, cW_i, Nat.add_zero, Nat.reduceAdd, Nat.reduceMul, t_bn0, t_bn1, Classical.not_not, t_lt, nI_add, nI_1, pk_mul, nI_clamp, c_si, nI_eq, nI_leI, nM_ne, nM_ne, xm_set, xm_lv0, xm_psh] at *
      all_goals have := ih (k + 1) (by omega) (by omega)
      all_goals rw [t_or_s] at this
      all_goals simpa [t_bit, c] using this
  refine ⟨rfl, ?_⟩
  repeat' (first
    | ((with_reducible refine @And.intro (vp_in _ _) _ ?_ ?_); (· (first | with_reducible assumption | ((with_reducible refine t_vin ?_); decide) | ((with_reducible refine vp_in_nI ?_ ?_) <;> first | omega | decide) | (simp (disch := omega) only [xl_n, xl_m, nI_dec, nI_sb, nI_add, pk_mul]; (with_reducible refine vp_in_nI ?_ ?_) <;> first | omega | decide))); (conv => whnf))
    | (refine And.intro (by first | with_reducible assumption | exact (show cL _ _ = _ from rfl) | decide) ?_; (conv => whnf))
    | ((with_reducible refine @And.intro (_ = _) _ ?_ ?_); (· rfl); (conv => whnf))
    | ((with_reducible refine @And.intro (@LE.le Nat _ _ _) _ ?_ ?_); (· (first | exact Nat.zero_le _ | exact Nat.le_of_ble_eq_true rfl | omega)); (conv => whnf))
    | ((with_reducible refine @And.intro (@LT.lt Nat _ _ _) _ ?_ ?_); (· omega); (conv => whnf))
    | ((with_reducible refine @And.intro (∃ _, _ = _) _ ?_ ?_); (· exact ⟨_, rfl⟩); (conv => whnf))
    | ((with_reducible refine @And.intro (_ ∨ _) _ ?_ ?_); (· (first | exact Or.inl rfl | exact Or.inr rfl | exact t_b01 _ | assumption)); (conv => whnf))
    | ((with_reducible refine @And.intro (¬ (_ = _)) _ ?_ ?_); (· first | assumption | (with_reducible assumption)); (conv => whnf))
    | (refine hX _ _ _ _ _ _ ?_; (conv => whnf); fail_if_success show False)
    | (rw [c_si]; (conv => whnf))
    | (refine ⟨_, rfl, ?_⟩; (conv => whnf))
    | (refine ⟨_, _, rfl, ?_⟩; (conv => whnf))
    | (refine ⟨_, _, _, rfl, ?_⟩; (conv => whnf))
    | (refine ⟨_, _, _, _, rfl, ?_⟩; (conv => whnf))
    | (refine And.intro (fun c => ?_) (fun c => ?_) <;> (first | (exact absurd c (by decide +kernel)) | (conv => whnf)))
    | fail)
  exact loop 0 (Nat.zero_le _)
theorem ct_X10_alive : xm_Ct cI yX10_alive (ws_ yX10_alive cX10_alive 3 (some .int)) 1 0 0 S_X10_alive := xm_enter (rt := 0) (init := false) (by decide +kernel) rfl (fun h => by cases h) (Or.inl ⟨rfl, rfl⟩) (oX10_alive) body_X10_alive
theorem cv_X10_alive {own : String} {cc : ByteArray} {fr pc idx : Nat} (hdg : decode cc pc = .ok (.invokevirtual idx, 3)) (hl : xm_ml own idx yX10_alive) (hfr : 1 < fr) : xm_CallOK cI own cc fr pc (pc + 3) 1 0 0 (xm_this 7 S_X10_alive) := xm_callV 7 cI_good (ct_X10_alive) hdg hl q803 q804 q144 q805 rfl rfl (by decide +kernel) hfr (by decide)
abbrev bX10_lacks_0 : List xE := [(.iconst 0, 1, 0, 0, 0), (.aload_n 0, 2, 0, 0, 0), (.getfield 3, 5, 7, 7, 1), (.getfield 38, 8, 0, 0, 1), (.getfield 67, 11, 1, 6, 1), (.iload_n 1, 12, 0, 0, 0), (.iaload, 13, 0, 0, 0), (.aload_n 0, 14, 0, 0, 0), (.getfield 19, 17, 7, 1, 1), (.iload_n 1, 18, 0, 0, 0), (.iaload, 19, 0, 0, 0), (.invokestatic 70, 22, 0, 0, 9), (.isub, 23, 0, 0, 0), (.invokestatic 76, 26, 0, 1, 9), (.ireturn, 27, 0, 0, 0)]
abbrev kX10_lacks : List (Nat × List xE) := [(0, bX10_lacks_0)]
abbrev lX10_lacks : List (Nat × Nat × Nat × xS) := [(1, 0, 0, S_J16_bitCount), (2, 0, 0, S_J12_max)]
theorem oX10_lacks_0  : xm_okb cI RX10 cX10_lacks false 2 lX10_lacks bX10_lacks_0 0 := xo_0 dX10_lacks_0 rfl trivial (xo_0 dX10_lacks_1 rfl trivial (xo_1 dX10_lacks_2 rfl (xm_fg_of (Or.inl q676) (by decide) rfl (by decide) rfl rfl (Or.inl rfl) rfl) (xo_1 dX10_lacks_5 rfl (xm_fg_of (Or.inr ⟨_, q717⟩) (by decide) rfl (by decide) rfl rfl (Or.inl rfl) rfl) (xo_1 dX10_lacks_8 rfl (xm_fg_of (Or.inr ⟨_, q537⟩) (by decide) rfl (by decide) rfl rfl (Or.inl rfl) rfl) (xo_0 dX10_lacks_11 rfl trivial (xo_0 dX10_lacks_12 rfl trivial (xo_0 dX10_lacks_13 rfl trivial (xo_1 dX10_lacks_14 rfl (xm_fg_of (Or.inl q664) (by decide) rfl (by decide) rfl rfl (Or.inl rfl) rfl) (xo_0 dX10_lacks_17 rfl trivial (xo_0 dX10_lacks_18 rfl trivial (xo_c rfl (cv_J16_bitCount dX10_lacks_19 (Or.inl q896) (by decide)) (xo_0 dX10_lacks_22 rfl trivial (xo_c rfl (xc_max dX10_lacks_23 q905 (by decide)) (xo_0 dX10_lacks_26 rfl trivial (xo_n)))))))))))))))
theorem oX10_lacks  : ∀ q ∈ kX10_lacks, xm_okb cI RX10 cX10_lacks false 2 lX10_lacks q.2 q.1 := by
  intro q hq
  simp only [List.mem_cons, List.not_mem_nil, or_false] at hq
  subst hq
  exact oX10_lacks_0  
def S_X10_lacks : xS := cU fun as P X I Q QX => ∃ r p, as = [.ref r, .int (nI p)] ∧ c_tr P r ∧ p < 8 ∧ t_m9 (I (10 * r + 1) p) ∧ Q (some (.int (t_more (nI 0) (I 36 p - t_ones (I (10 * r + 1) p))))) I
theorem body_X10_lacks : xm_Body 2 0 0 0 [] lX10_lacks kX10_lacks S_X10_lacks := by
  intro X avs w Q QX hX0 hS
  have hG := xm_go [] hX0
  have hX := xm_go [] hX0
  clear hX0
  obtain ⟨P, Z, I, rfl, r, p, rfl, hr, hp, hm, hQ⟩ := hS
  have e1 : (cW P Z I).2.1 (10 * r + 1) (nI p).toNatClampNeg = I (10 * r + 1) p := by rw [nI_clamp (by omega)]; rfl
  refine ⟨rfl, ?_⟩
  repeat' (first
    | ((with_reducible refine @And.intro (vp_in _ _) _ ?_ ?_); (· (first | with_reducible assumption | ((with_reducible refine t_vin ?_); decide) | ((with_reducible refine vp_in_nI ?_ ?_) <;> first | omega | decide) | (simp (disch := omega) only [xl_n, xl_m, nI_dec, nI_sb, nI_add, pk_mul]; (with_reducible refine vp_in_nI ?_ ?_) <;> first | omega | decide))); (conv => whnf))
    | (refine And.intro (by first | with_reducible assumption | exact (show cL _ _ = _ from rfl) | decide) ?_; (conv => whnf))
    | ((with_reducible refine @And.intro (_ = _) _ ?_ ?_); (· rfl); (conv => whnf))
    | ((with_reducible refine @And.intro (@LE.le Nat _ _ _) _ ?_ ?_); (· (first | exact Nat.zero_le _ | exact Nat.le_of_ble_eq_true rfl | omega)); (conv => whnf))
    | ((with_reducible refine @And.intro (@LT.lt Nat _ _ _) _ ?_ ?_); (· omega); (conv => whnf))
    | ((with_reducible refine @And.intro (∃ _, _ = _) _ ?_ ?_); (· exact ⟨_, rfl⟩); (conv => whnf))
    | ((with_reducible refine @And.intro (_ ∨ _) _ ?_ ?_); (· (first | exact Or.inl rfl | exact Or.inr rfl | exact t_b01 _ | assumption)); (conv => whnf))
    | ((with_reducible refine @And.intro (¬ (_ = _)) _ ?_ ?_); (· first | assumption | (with_reducible assumption)); (conv => whnf))
    | (refine hX _ _ _ _ _ _ ?_; (conv => whnf); fail_if_success show False)
    | (rw [c_si]; (conv => whnf))
    | (refine ⟨_, rfl, ?_⟩; (conv => whnf))
    | (refine ⟨_, _, rfl, ?_⟩; (conv => whnf))
    | (refine ⟨_, _, _, rfl, ?_⟩; (conv => whnf))
    | (refine ⟨_, _, _, _, rfl, ?_⟩; (conv => whnf))
    | (rw [e1]; (conv => whnf))
    | (rw [c_tl hr]; (conv => whnf))
    | (rw [c_t7 hr]; (conv => whnf))
    | (rw [c_tf hr (by decide)]; (conv => whnf))
    | (rw [c_t0 hr]; (conv => whnf))
    | (rw [c_t1 hr]; (conv => whnf))
    | (rw [c_t2 hr]; (conv => whnf))
    | (rw [c_t3 hr]; (conv => whnf))
    | (rw [c_t4 hr]; (conv => whnf))
    | (rw [c_t5 hr]; (conv => whnf))
    | (refine And.intro ⟨_, c_tl hr⟩ ?_; (conv => whnf))
    | (refine And.intro (fun c => ?_) (fun c => ?_) <;> (first | (exact absurd c (by decide +kernel)) | (conv => whnf)))
    | fail)
  refine t_q hQ ?_
  clear hX hG hQ
  simp (disch := omega) only [xl_n, xl_m, nI_dec, nI_sb, xl_0, xl_1, cW_i, Nat.add_zero, Nat.reduceAdd, Nat.reduceMul, t_bn0, t_bn1, Classical.not_not, t_lt, nI_add, nI_1, pk_mul, nI_clamp, c_si, nI_eq, nI_leI, nM_ne, nM_ne] at *
theorem ct_X10_lacks : xm_Ct cI yX10_lacks (ws_ yX10_lacks cX10_lacks 2 (some .int)) 2 0 0 S_X10_lacks := xm_enter (rt := 0) (init := false) (by decide +kernel) rfl (fun h => by cases h) (Or.inl ⟨rfl, rfl⟩) (oX10_lacks) body_X10_lacks
theorem cv_X10_lacks {own : String} {cc : ByteArray} {fr pc idx : Nat} (hdg : decode cc pc = .ok (.invokevirtual idx, 3)) (hl : xm_ml own idx yX10_lacks) (hfr : 2 < fr) : xm_CallOK cI own cc fr pc (pc + 3) 2 0 0 (xm_this 7 S_X10_lacks) := xm_callV 7 cI_good (ct_X10_lacks) hdg hl q902 q903 q144 q904 rfl rfl (by decide +kernel) hfr (by decide)
abbrev bX10_leaves_0 : List xE := [(.aload_n 0, 1, 0, 0, 0), (.getfield 19, 4, 7, 1, 1), (.iload_n 1, 5, 0, 0, 0), (.dup2, 6, 0, 0, 0), (.iaload, 7, 0, 0, 0), (.iconst 1, 8, 0, 0, 0), (.iload_n 2, 9, 0, 0, 0), (.ishl, 10, 0, 0, 0), (.iconst (-1), 11, 0, 0, 0), (.ixor, 12, 0, 0, 0), (.iand, 13, 0, 0, 0), (.iastore, 14, 0, 0, 0), (.aload_n 0, 15, 0, 0, 0), (.getfield 22, 18, 7, 2, 1), (.iload_n 1, 19, 0, 0, 0), (.iload_n 2, 20, 0, 0, 0), (.iastore, 21, 0, 0, 0), (.return_, 22, 0, 0, 0)]
abbrev kX10_leaves : List (Nat × List xE) := [(0, bX10_leaves_0)]
abbrev lX10_leaves : List (Nat × Nat × Nat × xS) := []
theorem oX10_leaves_0  : xm_okb cI RX10 cX10_leaves false 1 lX10_leaves bX10_leaves_0 0 := xo_0 dX10_leaves_0 rfl trivial (xo_1 dX10_leaves_1 rfl (xm_fg_of (Or.inl q664) (by decide) rfl (by decide) rfl rfl (Or.inl rfl) rfl) (xo_0 dX10_leaves_4 rfl trivial (xo_0 dX10_leaves_5 rfl trivial (xo_0 dX10_leaves_6 rfl trivial (xo_0 dX10_leaves_7 rfl trivial (xo_0 dX10_leaves_8 rfl trivial (xo_0 dX10_leaves_9 rfl trivial (xo_0 dX10_leaves_10 rfl trivial (xo_0 dX10_leaves_11 rfl trivial (xo_0 dX10_leaves_12 rfl trivial (xo_0 dX10_leaves_13 rfl trivial (xo_0 dX10_leaves_14 rfl trivial (xo_1 dX10_leaves_15 rfl (xm_fg_of (Or.inl q666) (by decide) rfl (by decide) rfl rfl (Or.inl rfl) rfl) (xo_0 dX10_leaves_18 rfl trivial (xo_0 dX10_leaves_19 rfl trivial (xo_0 dX10_leaves_20 rfl trivial (xo_0 dX10_leaves_21 rfl trivial (xo_n))))))))))))))))))
theorem oX10_leaves  : ∀ q ∈ kX10_leaves, xm_okb cI RX10 cX10_leaves false 1 lX10_leaves q.2 q.1 := by
  intro q hq
  simp only [List.mem_cons, List.not_mem_nil, or_false] at hq
  subst hq
  exact oX10_leaves_0  
def S_X10_leaves : xS := cU fun as P X I Q QX => ∃ r p h, as = [.ref r, .int (nI p), .int (nI h)] ∧ c_tr P r ∧ p < 8 ∧ Q none (xm_u2 (xm_u2 I (10 * r + 1) p (I (10 * r + 1) p &&& (t_bit h ^^^ nM))) (10 * r + 2) p (nI h))
theorem body_X10_leaves : xm_Body 3 2 0 0 [] lX10_leaves kX10_leaves S_X10_leaves := by
  intro X avs w Q QX hX0 hS
  have hG := xm_go [] hX0
  have hX := xm_go [] hX0
  clear hX0
  obtain ⟨P, Z, I, rfl, r, p, h, rfl, hr, hp, hQ⟩ := hS
  refine ⟨rfl, ?_⟩
  repeat' (first
    | ((with_reducible refine @And.intro (vp_in _ _) _ ?_ ?_); (· (first | with_reducible assumption | ((with_reducible refine t_vin ?_); decide) | ((with_reducible refine vp_in_nI ?_ ?_) <;> first | omega | decide) | (simp (disch := omega) only [xl_n, xl_m, nI_dec, nI_sb, nI_add, pk_mul]; (with_reducible refine vp_in_nI ?_ ?_) <;> first | omega | decide))); (conv => whnf))
    | (refine And.intro (by first | with_reducible assumption | exact (show cL _ _ = _ from rfl) | decide) ?_; (conv => whnf))
    | ((with_reducible refine @And.intro (_ = _) _ ?_ ?_); (· rfl); (conv => whnf))
    | ((with_reducible refine @And.intro (@LE.le Nat _ _ _) _ ?_ ?_); (· (first | exact Nat.zero_le _ | exact Nat.le_of_ble_eq_true rfl | omega)); (conv => whnf))
    | ((with_reducible refine @And.intro (@LT.lt Nat _ _ _) _ ?_ ?_); (· omega); (conv => whnf))
    | ((with_reducible refine @And.intro (∃ _, _ = _) _ ?_ ?_); (· exact ⟨_, rfl⟩); (conv => whnf))
    | ((with_reducible refine @And.intro (_ ∨ _) _ ?_ ?_); (· (first | exact Or.inl rfl | exact Or.inr rfl | exact t_b01 _ | assumption)); (conv => whnf))
    | ((with_reducible refine @And.intro (¬ (_ = _)) _ ?_ ?_); (· first | assumption | (with_reducible assumption)); (conv => whnf))
    | (refine hX _ _ _ _ _ _ ?_; (conv => whnf); fail_if_success show False)
    | (rw [c_si]; simp (disch := omega) only [xl_n, xl_m, nI_dec, nI_sb, xl_0, xl_1, cW_i, Nat.add_zero, Nat.reduceAdd, Nat.reduceMul, t_bn0, t_bn1, Classical.not_not, t_lt, nI_add, nI_1, pk_mul, nI_clamp, c_si, nI_eq, nI_leI, nM_ne, nM_ne, xm_u2_ne, xm_u2_at, reduceIte, Nat.reduceEqDiff]; (conv => whnf))
    | (refine ⟨_, rfl, ?_⟩; (conv => whnf))
    | (refine ⟨_, _, rfl, ?_⟩; (conv => whnf))
    | (refine ⟨_, _, _, rfl, ?_⟩; (conv => whnf))
    | (refine ⟨_, _, _, _, rfl, ?_⟩; (conv => whnf))
    | (rw [c_tl hr]; (conv => whnf))
    | (rw [c_t7 hr]; (conv => whnf))
    | (rw [c_tf hr (by decide)]; (conv => whnf))
    | (rw [c_t0 hr]; (conv => whnf))
    | (rw [c_t1 hr]; (conv => whnf))
    | (rw [c_t2 hr]; (conv => whnf))
    | (rw [c_t3 hr]; (conv => whnf))
    | (rw [c_t4 hr]; (conv => whnf))
    | (rw [c_t5 hr]; (conv => whnf))
    | (refine And.intro ⟨_, c_tl hr⟩ ?_; (conv => whnf))
    | (refine And.intro (fun c => ?_) (fun c => ?_) <;> (first | (exact absurd c (by decide +kernel)) | (conv => whnf)))
    | fail)
  exact hQ
theorem ct_X10_leaves : xm_Ct cI yX10_leaves (ws_ yX10_leaves cX10_leaves 3 none) 1 0 0 S_X10_leaves := xm_enter (rt := 2) (init := false) (by decide +kernel) rfl (fun h => by cases h) (Or.inr (Or.inr (Or.inl ⟨rfl, rfl⟩))) (oX10_leaves) body_X10_leaves
theorem cv_X10_leaves {own : String} {cc : ByteArray} {fr pc idx : Nat} (hdg : decode cc pc = .ok (.invokevirtual idx, 3)) (hl : xm_ml own idx yX10_leaves) (hfr : 1 < fr) : xm_CallOK cI own cc fr pc (pc + 3) 3 0 0 (xm_this 7 S_X10_leaves) := xm_callV 7 cI_good (ct_X10_leaves) hdg hl q893 q894 q144 q895 rfl rfl (by decide +kernel) hfr (by decide)
abbrev bX10_takes_0 : List xE := [(.aload_n 0, 1, 0, 0, 0), (.getfield 19, 4, 7, 1, 1), (.iload_n 1, 5, 0, 0, 0), (.dup2, 6, 0, 0, 0), (.iaload, 7, 0, 0, 0), (.iconst 1, 8, 0, 0, 0), (.iload_n 2, 9, 0, 0, 0), (.ishl, 10, 0, 0, 0), (.ior, 11, 0, 0, 0), (.iastore, 12, 0, 0, 0), (.aload_n 0, 13, 0, 0, 0), (.getfield 28, 16, 7, 4, 1), (.bipush 8, 18, 0, 0, 0), (.iload_n 2, 19, 0, 0, 0), (.imul, 20, 0, 0, 0), (.iload_n 1, 21, 0, 0, 0), (.iadd, 22, 0, 0, 0), (.aload_n 0, 23, 0, 0, 0), (.getfield 34, 26, 7, 6, 0), (.iastore, 27, 0, 0, 0), (.return_, 28, 0, 0, 0)]
abbrev kX10_takes : List (Nat × List xE) := [(0, bX10_takes_0)]
abbrev lX10_takes : List (Nat × Nat × Nat × xS) := []
theorem oX10_takes_0  : xm_okb cI RX10 cX10_takes false 1 lX10_takes bX10_takes_0 0 := xo_0 dX10_takes_0 rfl trivial (xo_1 dX10_takes_1 rfl (xm_fg_of (Or.inl q664) (by decide) rfl (by decide) rfl rfl (Or.inl rfl) rfl) (xo_0 dX10_takes_4 rfl trivial (xo_0 dX10_takes_5 rfl trivial (xo_0 dX10_takes_6 rfl trivial (xo_0 dX10_takes_7 rfl trivial (xo_0 dX10_takes_8 rfl trivial (xo_0 dX10_takes_9 rfl trivial (xo_0 dX10_takes_10 rfl trivial (xo_0 dX10_takes_11 rfl trivial (xo_0 dX10_takes_12 rfl trivial (xo_1 dX10_takes_13 rfl (xm_fg_of (Or.inl q670) (by decide) rfl (by decide) rfl rfl (Or.inl rfl) rfl) (xo_0 dX10_takes_16 rfl (xo_bipush (by decide +kernel)) (xo_0 dX10_takes_18 rfl trivial (xo_0 dX10_takes_19 rfl trivial (xo_0 dX10_takes_20 rfl trivial (xo_0 dX10_takes_21 rfl trivial (xo_0 dX10_takes_22 rfl trivial (xo_0 dX10_takes_23 rfl (xm_fg_of (Or.inl q674) (by decide) rfl (by decide) rfl rfl (Or.inl rfl) rfl) (xo_0 dX10_takes_26 rfl trivial (xo_0 dX10_takes_27 rfl trivial (xo_n)))))))))))))))))))))
theorem oX10_takes  : ∀ q ∈ kX10_takes, xm_okb cI RX10 cX10_takes false 1 lX10_takes q.2 q.1 := by
  intro q hq
  simp only [List.mem_cons, List.not_mem_nil, or_false] at hq
  subst hq
  exact oX10_takes_0  
def S_X10_takes : xS := cU fun as P X I Q QX => ∃ r p h, as = [.ref r, .int (nI p), .int (nI h)] ∧ c_tr P r ∧ p < 8 ∧ h < 9 ∧ Q none (xm_u2 (xm_u2 I (10 * r + 1) p (I (10 * r + 1) p ||| t_bit h)) (10 * r + 4) (8 * h + p) (I r 6))
theorem body_X10_takes : xm_Body 3 2 0 0 [] lX10_takes kX10_takes S_X10_takes := by
  intro X avs w Q QX hX0 hS
  have hG := xm_go [] hX0
  have hX := xm_go [] hX0
  clear hX0
  obtain ⟨P, Z, I, rfl, r, p, h, rfl, hr, hp, hh, hQ⟩ := hS
  refine ⟨rfl, ?_⟩
  repeat' (first
    | ((with_reducible refine @And.intro (vp_in _ _) _ ?_ ?_); (· (first | with_reducible assumption | ((with_reducible refine t_vin ?_); decide) | ((with_reducible refine vp_in_nI ?_ ?_) <;> first | omega | decide) | (simp (disch := omega) only [xl_n, xl_m, nI_dec, nI_sb, nI_add, pk_mul]; (with_reducible refine vp_in_nI ?_ ?_) <;> first | omega | decide))); (conv => whnf))
    | (refine And.intro (by first | with_reducible assumption | exact (show cL _ _ = _ from rfl) | decide) ?_; (conv => whnf))
    | ((with_reducible refine @And.intro (_ = _) _ ?_ ?_); (· rfl); (conv => whnf))
    | ((with_reducible refine @And.intro (@LE.le Nat _ _ _) _ ?_ ?_); (· (first | exact Nat.zero_le _ | exact Nat.le_of_ble_eq_true rfl | omega)); (conv => whnf))
    | ((with_reducible refine @And.intro (@LT.lt Nat _ _ _) _ ?_ ?_); (· omega); (conv => whnf))
    | ((with_reducible refine @And.intro (∃ _, _ = _) _ ?_ ?_); (· exact ⟨_, rfl⟩); (conv => whnf))
    | ((with_reducible refine @And.intro (_ ∨ _) _ ?_ ?_); (· (first | exact Or.inl rfl | exact Or.inr rfl | exact t_b01 _ | assumption)); (conv => whnf))
    | ((with_reducible refine @And.intro (¬ (_ = _)) _ ?_ ?_); (· first | assumption | (with_reducible assumption)); (conv => whnf))
    | (refine hX _ _ _ _ _ _ ?_; (conv => whnf); fail_if_success show False)
    | (rw [c_si]; simp (disch := omega) only [xl_n, xl_m, nI_dec, nI_sb, xl_0, xl_1, cW_i, Nat.add_zero, Nat.reduceAdd, Nat.reduceMul, t_bn0, t_bn1, Classical.not_not, t_lt, nI_add, nI_1, pk_mul, nI_clamp, c_si, nI_eq, nI_leI, nM_ne, nM_ne, xm_u2_ne, xm_u2_at, reduceIte, Nat.reduceEqDiff]; (conv => whnf))
    | (refine ⟨_, rfl, ?_⟩; (conv => whnf))
    | (refine ⟨_, _, rfl, ?_⟩; (conv => whnf))
    | (refine ⟨_, _, _, rfl, ?_⟩; (conv => whnf))
    | (refine ⟨_, _, _, _, rfl, ?_⟩; (conv => whnf))
    | (rw [c_tl hr]; (conv => whnf))
    | (rw [c_t7 hr]; (conv => whnf))
    | (rw [c_tf hr (by decide)]; (conv => whnf))
    | (rw [c_t0 hr]; (conv => whnf))
    | (rw [c_t1 hr]; (conv => whnf))
    | (rw [c_t2 hr]; (conv => whnf))
    | (rw [c_t3 hr]; (conv => whnf))
    | (rw [c_t4 hr]; (conv => whnf))
    | (rw [c_t5 hr]; (conv => whnf))
    | (refine And.intro ⟨_, c_tl hr⟩ ?_; (conv => whnf))
    | (refine And.intro (fun c => ?_) (fun c => ?_) <;> (first | (exact absurd c (by decide +kernel)) | (conv => whnf)))
    | fail)
  exact hQ
theorem ct_X10_takes : xm_Ct cI yX10_takes (ws_ yX10_takes cX10_takes 3 none) 1 0 0 S_X10_takes := xm_enter (rt := 2) (init := false) (by decide +kernel) rfl (fun h => by cases h) (Or.inr (Or.inr (Or.inl ⟨rfl, rfl⟩))) (oX10_takes) body_X10_takes
theorem cv_X10_takes {own : String} {cc : ByteArray} {fr pc idx : Nat} (hdg : decode cc pc = .ok (.invokevirtual idx, 3)) (hl : xm_ml own idx yX10_takes) (hfr : 1 < fr) : xm_CallOK cI own cc fr pc (pc + 3) 3 0 0 (xm_this 7 S_X10_takes) := xm_callV 7 cI_good (ct_X10_takes) hdg hl q972 q973 q144 q974 rfl rfl (by decide +kernel) hfr (by decide)
