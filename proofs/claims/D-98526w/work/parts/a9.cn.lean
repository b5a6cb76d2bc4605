/-! ===== the component: what is told ===== -/
set_option maxRecDepth 100000
theorem c_rc (v : Int32) (lo hi : Nat) {A B : Int32} (hA : A = nI lo) (hB : B = nI hi) (hl : lo < 2 ^ 31) (hh : hi < 2 ^ 31) : (∃ n, lo ≤ n ∧ n ≤ hi ∧ v = nI n ∧ t_in v (nI lo) (nI hi) = true) ∨ (t_in v (nI lo) (nI hi) = false ∧ v < A) ∨ (t_in v (nI lo) (nI hi) = false ∧ ¬ v < A ∧ B < v) := by
  subst hA
  subst hB
  by_cases h1 : v < nI lo
  · refine Or.inr (Or.inl ⟨?_, h1⟩)
    unfold t_in
    rw [decide_eq_false (Int32.not_le.mpr h1)]
    rfl
  · by_cases h2 : nI hi < v
    · refine Or.inr (Or.inr ⟨?_, h1, h2⟩)
      unfold t_in
      rw [decide_eq_false (p := v ≤ nI hi) (Int32.not_le.mpr h2), Bool.and_false]
    · left
      have g1 := Int32.not_lt.mp h1
      have g2 := Int32.not_lt.mp h2
      have g0 : ¬ v < 0 := fun q => by
        have := Int32.lt_of_lt_of_le q (Int32.le_trans (show (0 : Int32) ≤ nI lo from (nI_leI (a := 0) (b := lo) (by decide) hl).mpr (Nat.zero_le _)) g1)
        exact Int32.lt_irrefl this
      obtain ⟨n, hn, rfl⟩ := nI_of (x := v) g0
      refine ⟨n, (nI_leI hl hn).mp g1, (nI_leI hn hh).mp g2, rfl, ?_⟩
      unfold t_in
      rw [decide_eq_true g1, decide_eq_true g2]
      rfl
abbrev bX1_status_0 : List xE := [(.iload_n 1, 1, 0, 0, 0), (.ifCond .eq 8, 4, 0, 9, 0), (.iload_n 1, 5, 0, 0, 0), (.iconst 1, 6, 0, 0, 0), (.if_icmp .ne 12, 9, 0, 18, 0)]
abbrev bX1_status_9 : List xE := [(.aload_n 0, 10, 0, 0, 0), (.getfield 50, 13, 0, 4, 1), (.iload_n 1, 14, 0, 0, 0), (.iaload, 15, 0, 0, 0), (.goto 4, 18, 0, 19, 0)]
abbrev bX1_status_18 : List xE := [(.iconst (-1), 19, 0, 0, 0)]
abbrev bX1_status_19 : List xE := [(.ireturn, 20, 0, 0, 0)]
abbrev kX1_status : List (Nat × List xE) := [(0, bX1_status_0), (9, bX1_status_9), (18, bX1_status_18), (19, bX1_status_19)]
abbrev lX1_status : List (Nat × Nat × Nat × xS) := []
theorem oX1_status_0  : xm_okb cI RX1 cX1_status false 1 lX1_status bX1_status_0 0 := xo_0 dX1_status_0 rfl trivial (xo_0 dX1_status_1 rfl rfl (xo_0 dX1_status_4 rfl trivial (xo_0 dX1_status_5 rfl trivial (xo_0 dX1_status_6 rfl rfl (xo_n)))))
theorem oX1_status_9  : xm_okb cI RX1 cX1_status false 1 lX1_status bX1_status_9 9 := xo_0 dX1_status_9 rfl trivial (xo_1 dX1_status_10 rfl (xm_fg_of (Or.inl q723) (by decide) rfl (by decide) rfl rfl (Or.inl rfl) rfl) (xo_0 dX1_status_13 rfl trivial (xo_0 dX1_status_14 rfl trivial (xo_0 dX1_status_15 rfl rfl (xo_n)))))
theorem oX1_status_18  : xm_okb cI RX1 cX1_status false 1 lX1_status bX1_status_18 18 := xo_0 dX1_status_18 rfl trivial (xo_n)
theorem oX1_status_19  : xm_okb cI RX1 cX1_status false 1 lX1_status bX1_status_19 19 := xo_0 dX1_status_19 rfl trivial (xo_n)
theorem oX1_status  : ∀ q ∈ kX1_status, xm_okb cI RX1 cX1_status false 1 lX1_status q.2 q.1 := by
  intro q hq
  simp only [List.mem_cons, List.not_mem_nil, or_false] at hq
  rcases hq with rfl | rfl | rfl | rfl
  · exact oX1_status_0  
  · exact oX1_status_9  
  · exact oX1_status_18  
  · exact oX1_status_19  
def S_X1_status : xS := cU fun as P Z I Q QX => ∃ a L, as = [.ref 0, .int a] ∧ c_good P Z I L ∧ c_P P Z L (cG P I L) Q QX (q_status (cG P I L) a)
theorem body_X1_status : xm_Body 2 0 0 0 [] lX1_status kX1_status S_X1_status := by
  intro X avs w Q QX hX0 hS
  have hG := xm_go [] hX0
  have hX := xm_go [] hX0
  clear hX0
  obtain ⟨P, Z, I, rfl, a, L, rfl, hg, hQ⟩ := hS
  rcases c_rc a 0 1 (A := 0) (B := Int32.ofInt 1) (by decide +kernel) (by decide +kernel) (by omega) (by omega) with ⟨n, -, hn, rfl, e1⟩ | ⟨e1, h1⟩ | ⟨e1, h1, h2⟩
  · have q : n = 0 ∨ n = 1 := by omega
    rw [q_status, e1, if_pos rfl, nI_clamp (by omega)] at hQ
    rcases q with rfl | rfl
    all_goals
      refine ⟨rfl, ?_⟩
      repeat' (first
        | ((with_reducible refine @And.intro (vp_in _ _) _ ?_ ?_); (· (first | with_reducible assumption | ((with_reducible refine t_vin ?_); decide) | ((with_reducible refine vp_in_nI ?_ ?_) <;> first | omega | decide) | (simp (disch := omega) only [xl_n, xl_m, nI_dec, nI_sb, nI_add, pk_mul]; (with_reducible refine vp_in_nI ?_ ?_) <;> first | omega | decide))); (conv => whnf))
        | (refine And.intro (by first | with_reducible assumption | exact (show cL _ _ = _ from rfl) | decide) ?_; (conv => whnf))
        | ((with_reducible refine @And.intro (_ = _) _ ?_ ?_); (· rfl); (conv => whnf))
        | ((with_reducible refine @And.intro (@LE.le Nat _ _ _) _ ?_ ?_); (· (first | exact Nat.zero_le _ | exact Nat.le_of_ble_eq_true rfl | omega)); (conv => whnf))
        | ((with_reducible refine @And.intro (@LT.lt Nat _ _ _) _ ?_ ?_); (· omega); (conv => whnf))
        | ((with_reducible refine @And.intro (∃ _, _ = _) _ ?_ ?_); (· exact ⟨_, rfl⟩); (conv => whnf))
        | ((with_reducible refine @And.intro (_ ∨ _) _ ?_ ?_); (· (first | exact Or.inl rfl | exact Or.inr rfl | exact t_b01 _ | assumption)); (conv => whnf))
        | ((with_reducible refine @And.intro (¬ (_ = _)) _ ?_ ?_); (· first | assumption | (with_reducible assumption)); (conv => whnf))
        | (refine hX _ _ _ _ _ _ ?_; (conv => whnf); fail_if_success show False)
        | (rw [c_si]; (conv => whnf))
        | (refine ⟨_, rfl, ?_⟩; (conv => whnf))
        | (refine ⟨_, _, rfl, ?_⟩; (conv => whnf))
        | (refine ⟨_, _, _, rfl, ?_⟩; (conv => whnf))
        | (refine ⟨_, _, _, _, rfl, ?_⟩; (conv => whnf))
        | (refine And.intro (fun c => ?_) (fun c => ?_) <;> (first | (exact absurd c (by decide +kernel)) | (conv => whnf)))
        | fail)
      exact c_ask hQ hg c_sp.rf rfl
  all_goals
    rw [q_status, e1, if_neg (by decide)] at hQ
    have n0 : ¬ a = 0 := fun q => by
      subst q
      exact absurd e1 (by decide +kernel)
    have n1 : ¬ a = Int32.ofInt 1 := fun q => by
      subst q
      exact absurd e1 (by decide +kernel)
    refine ⟨rfl, ?_⟩
    repeat' (first
      | ((with_reducible refine @And.intro (vp_in _ _) _ ?_ ?_); (· (first | with_reducible assumption | ((with_reducible refine t_vin ?_); decide) | ((with_reducible refine vp_in_nI ?_ ?_) <;> first | omega | decide) | (simp (disch := omega) only [xl_n, xl_m, nI_dec, nI_sb, nI_add, pk_mul]; (with_reducible refine vp_in_nI ?_ ?_) <;> first | omega | decide))); (conv => whnf))
      | (refine And.intro (by first | with_reducible assumption | exact (show cL _ _ = _ from rfl) | decide) ?_; (conv => whnf))
      | ((with_reducible refine @And.intro (_ = _) _ ?_ ?_); (· rfl); (conv => whnf))
      | ((with_reducible refine @And.intro (@LE.le Nat _ _ _) _ ?_ ?_); (· (first | exact Nat.zero_le _ | exact Nat.le_of_ble_eq_true rfl | omega)); (conv => whnf))
      | ((with_reducible refine @And.intro (@LT.lt Nat _ _ _) _ ?_ ?_); (· omega); (conv => whnf))
      | ((with_reducible refine @And.intro (∃ _, _ = _) _ ?_ ?_); (· exact ⟨_, rfl⟩); (conv => whnf))
      | ((with_reducible refine @And.intro (_ ∨ _) _ ?_ ?_); (· (first | exact Or.inl rfl | exact Or.inr rfl | exact t_b01 _ | assumption)); (conv => whnf))
      | ((with_reducible refine @And.intro (¬ (_ = _)) _ ?_ ?_); (· first | assumption | (with_reducible assumption)); (conv => whnf))
      | (refine hX _ _ _ _ _ _ ?_; (conv => whnf); fail_if_success show False)
      | (rw [c_si]; (conv => whnf))
      | (refine ⟨_, rfl, ?_⟩; (conv => whnf))
      | (refine ⟨_, _, rfl, ?_⟩; (conv => whnf))
      | (refine ⟨_, _, _, rfl, ?_⟩; (conv => whnf))
      | (refine ⟨_, _, _, _, rfl, ?_⟩; (conv => whnf))
      | (refine And.intro (fun c => ?_) (fun c => ?_) <;> (first | (exact absurd c (by decide +kernel)) | (exact absurd c (by assumption)) | (exact False.elim (c (by assumption))) | (conv => whnf)))
      | fail)
    exact c_ask hQ hg c_sp.rf (by decide +kernel)
theorem ct_X1_status : xm_Ct cI yX1_status (ws_ yX1_status cX1_status 2 (some .int)) 1 0 0 S_X1_status := xm_enter (rt := 0) (init := false) (by decide +kernel) rfl (fun h => by cases h) (Or.inl ⟨rfl, rfl⟩) (oX1_status) body_X1_status
theorem cv_X1_status {own : String} {cc : ByteArray} {fr pc idx : Nat} (hdg : decode cc pc = .ok (.invokevirtual idx, 3)) (hl : xm_ml own idx yX1_status) (hfr : 1 < fr) : xm_CallOK cI own cc fr pc (pc + 3) 2 0 0 (xm_this 0 S_X1_status) := xm_callV 0 cI_good (ct_X1_status) hdg hl q1014 q1015 q116 q1016 rfl rfl (by decide +kernel) hfr (by decide)
abbrev bX1_stringsOf_0 : List xE := [(.iconst 0, 1, 0, 0, 0), (.istore_n 2, 2, 0, 0, 0), (.iconst 0, 3, 0, 0, 0), (.istore_n 3, 4, 0, 0, 0)]
abbrev bX1_stringsOf_4 : List xE := [(.iload_n 3, 5, 0, 0, 0), (.aload_n 0, 6, 0, 0, 0), (.getfield 31, 9, 0, 0, 1), (.getfield 133, 12, 1, 12, 0), (.if_icmp .ge 18, 15, 0, 30, 0), (.iload_n 2, 16, 0, 0, 0), (.aload_n 1, 17, 0, 0, 0), (.getfield 198, 20, 7, 3, 1), (.iload_n 3, 21, 0, 0, 0), (.iaload, 22, 0, 0, 0), (.iadd, 23, 0, 0, 0), (.istore_n 2, 24, 0, 0, 0), (.iinc 3 1, 27, 0, 0, 0), (.goto (-23), 30, 0, 4, 0)]
abbrev bX1_stringsOf_30 : List xE := [(.iload_n 2, 31, 0, 0, 0), (.ireturn, 32, 0, 0, 0)]
abbrev kX1_stringsOf : List (Nat × List xE) := [(0, bX1_stringsOf_0), (4, bX1_stringsOf_4), (30, bX1_stringsOf_30)]
abbrev lX1_stringsOf : List (Nat × Nat × Nat × xS) := []
theorem oX1_stringsOf_0  : xm_okb cI RX1 cX1_stringsOf false 1 lX1_stringsOf bX1_stringsOf_0 0 := xo_0 dX1_stringsOf_0 rfl trivial (xo_0 dX1_stringsOf_1 rfl trivial (xo_0 dX1_stringsOf_2 rfl trivial (xo_0 dX1_stringsOf_3 rfl trivial (xo_n))))
theorem oX1_stringsOf_4  : xm_okb cI RX1 cX1_stringsOf false 1 lX1_stringsOf bX1_stringsOf_4 4 := xo_0 dX1_stringsOf_4 rfl trivial (xo_0 dX1_stringsOf_5 rfl trivial (xo_1 dX1_stringsOf_6 rfl (xm_fg_of (Or.inl q716) (by decide) rfl (by decide) rfl rfl (Or.inl rfl) rfl) (xo_0 dX1_stringsOf_9 rfl (xm_fg_of (Or.inr ⟨_, q560⟩) (by decide) rfl (by decide) rfl rfl (Or.inl rfl) rfl) (xo_0 dX1_stringsOf_12 rfl rfl (xo_0 dX1_stringsOf_15 rfl trivial (xo_0 dX1_stringsOf_16 rfl trivial (xo_1 dX1_stringsOf_17 rfl (xm_fg_of (Or.inr ⟨_, q669⟩) (by decide) rfl (by decide) rfl rfl (Or.inl rfl) rfl) (xo_0 dX1_stringsOf_20 rfl trivial (xo_0 dX1_stringsOf_21 rfl trivial (xo_0 dX1_stringsOf_22 rfl trivial (xo_0 dX1_stringsOf_23 rfl trivial (xo_0 dX1_stringsOf_24 rfl trivial (xo_0 dX1_stringsOf_27 rfl rfl (xo_n))))))))))))))
theorem oX1_stringsOf_30  : xm_okb cI RX1 cX1_stringsOf false 1 lX1_stringsOf bX1_stringsOf_30 30 := xo_0 dX1_stringsOf_30 rfl trivial (xo_0 dX1_stringsOf_31 rfl trivial (xo_n))
theorem oX1_stringsOf  : ∀ q ∈ kX1_stringsOf, xm_okb cI RX1 cX1_stringsOf false 1 lX1_stringsOf q.2 q.1 := by
  intro q hq
  simp only [List.mem_cons, List.not_mem_nil, or_false] at hq
  rcases hq with rfl | rfl | rfl
  · exact oX1_stringsOf_0  
  · exact oX1_stringsOf_4  
  · exact oX1_stringsOf_30  
def S_X1_stringsOf : xS := cU fun as P Z I Q QX => ∃ (r : Nat) (L : List lC), as = [.ref 0, .ref r] ∧ c_tr P r ∧ c_ok I ∧ Q (some (.int (g_strs (cK I L) (cA I r)))) I
theorem body_X1_stringsOf : xm_Body 4 0 0 0 [] lX1_stringsOf kX1_stringsOf S_X1_stringsOf := by
  intro X avs w Q QX hX0 hS
  have hG := xm_go [] hX0
  have hX := xm_go [4] hX0
  clear hX0
  obtain ⟨P, Z, I, rfl, r, L, rfl, hr, hok, hQ⟩ := hS
  obtain ⟨hn, h9, hm, h8⟩ := id hok
  have loop : ∀ k, k ≤ c_p I → X 4 [some (.ref 0), some (.ref r), some (.int (t_sum k (gs (cA I r)))), some (.int (nI k))] [] (cW P Z I) 0 0 := by
    refine t_for fun k h1 ih => ?_
    have ih := fun q => ih (k + 1) (by omega) q
    refine hG _ _ _ _ _ _ ?_
    (conv => whnf)
    repeat' (first
      | ((with_reducible refine @And.intro (vp_in _ _) _ ?_ ?_); (· (first | with_reducible assumption | ((with_reducible refine t_vin ?_); decide) | ((with_reducible refine vp_in_nI ?_ ?_) <;> first | omega | decide) | (simp (disch := omega) only [xl_n, xl_m, nI_dec, nI_sb, nI_add, pk_mul]; (with_reducible refine vp_in_nI ?_ ?_) <;> first | omega | decide))); (conv => whnf))
      | (refine And.intro (by first | with_reducible assumption | exact (show cL _ _ = _ from rfl) | decide) ?_; (conv => whnf))
      | ((with_reducible refine @And.intro (_ = _) _ ?_ ?_); (· rfl); (conv => whnf))
      | ((with_reducible refine @And.intro (@LE.le Nat _ _ _) _ ?_ ?_); (· (first | exact Nat.zero_le _ | exact Nat.le_of_ble_eq_true rfl | omega)); (conv => whnf))
      | ((with_reducible refine @And.intro (@LT.lt Nat _ _ _) _ ?_ ?_); (· omega); (conv => whnf))
      | ((with_reducible refine @And.intro (∃ _, _ = _) _ ?_ ?_); (· exact ⟨_, rfl⟩); (conv => whnf))
      | ((with_reducible refine @And.intro (_ ∨ _) _ ?_ ?_); (· (first | exact Or.inl rfl | exact Or.inr rfl | exact t_b01 _ | assumption)); (conv => whnf))
      | ((with_reducible refine @And.intro (¬ (_ = _)) _ ?_ ?_); (· first | assumption | (with_reducible assumption)); (conv => whnf))
      | (refine hX _ _ _ _ _ _ ?_; (conv => whnf); fail_if_success show False)
      | (rw [c_si]; (conv => whnf))
      | (refine ⟨_, rfl, ?_⟩; (conv => whnf))
      | (refine ⟨_, _, rfl, ?_⟩; (conv => whnf))
      | (refine ⟨_, _, _, rfl, ?_⟩; (conv => whnf))
      | (refine ⟨_, _, _, _, rfl, ?_⟩; (conv => whnf))
      | fail)
    refine And.intro (fun c => ?_) (fun c => ?_) <;> (conv => whnf)
    · have : k = c_p I := Nat.le_antisymm h1 (t_kge hm c (by omega) (by omega))
      subst this
      clear ih
      repeat' (first
        | ((with_reducible refine @And.intro (vp_in _ _) _ ?_ ?_); (· (first | with_reducible assumption | ((with_reducible refine t_vin ?_); decide) | ((with_reducible refine vp_in_nI ?_ ?_) <;> first | omega | decide) | (simp (disch := omega) only [xl_n, xl_m, nI_dec, nI_sb, nI_add, pk_mul]; (with_reducible refine vp_in_nI ?_ ?_) <;> first | omega | decide))); (conv => whnf))
        | (refine And.intro (by first | with_reducible assumption | exact (show cL _ _ = _ from rfl) | decide) ?_; (conv => whnf))
        | ((with_reducible refine @And.intro (_ = _) _ ?_ ?_); (· rfl); (conv => whnf))
        | ((with_reducible refine @And.intro (@LE.le Nat _ _ _) _ ?_ ?_); (· (first | exact Nat.zero_le _ | exact Nat.le_of_ble_eq_true rfl | omega)); (conv => whnf))
        | ((with_reducible refine @And.intro (@LT.lt Nat _ _ _) _ ?_ ?_); (· omega); (conv => whnf))
        | ((with_reducible refine @And.intro (∃ _, _ = _) _ ?_ ?_); (· exact ⟨_, rfl⟩); (conv => whnf))
        | ((with_reducible refine @And.intro (_ ∨ _) _ ?_ ?_); (· (first | exact Or.inl rfl | exact Or.inr rfl | exact t_b01 _ | assumption)); (conv => whnf))
        | ((with_reducible refine @And.intro (¬ (_ = _)) _ ?_ ?_); (· first | assumption | (with_reducible assumption)); (conv => whnf))
        | (refine hX _ _ _ _ _ _ ?_; (conv => whnf); fail_if_success show False)
        | (rw [c_si]; (conv => whnf))
        | (refine ⟨_, rfl, ?_⟩; (conv => whnf))
        | (refine ⟨_, _, rfl, ?_⟩; (conv => whnf))
        | (refine ⟨_, _, _, rfl, ?_⟩; (conv => whnf))
        | (refine ⟨_, _, _, _, rfl, ?_⟩; (conv => whnf))
        | (refine And.intro (fun c => ?_) (fun c => ?_) <;> (first | (exact absurd c (by decide +kernel)) | (conv => whnf)))
        | fail)
      exact hQ
    · have hk : k < c_p I := t_klt hm c (by omega)
      have ih := ih (by omega)
      rw [show t_sum (k + 1) (gs (cA I r)) = t_sum k (gs (cA I r)) + gs (cA I r) k from rfl, cA_gs (by omega)] at ih
      repeat' (first
        | ((with_reducible refine @And.intro (vp_in _ _) _ ?_ ?_); (· (first | with_reducible assumption | ((with_reducible refine t_vin ?_); decide) | ((with_reducible refine vp_in_nI ?_ ?_) <;> first | omega | decide) | (simp (disch := omega) only [xl_n, xl_m, nI_dec, nI_sb, nI_add, pk_mul]; (with_reducible refine vp_in_nI ?_ ?_) <;> first | omega | decide))); (conv => whnf))
        | (refine And.intro (by first | with_reducible assumption | exact (show cL _ _ = _ from rfl) | decide) ?_; (conv => whnf))
        | ((with_reducible refine @And.intro (_ = _) _ ?_ ?_); (· rfl); (conv => whnf))
        | ((with_reducible refine @And.intro (@LE.le Nat _ _ _) _ ?_ ?_); (· (first | exact Nat.zero_le _ | exact Nat.le_of_ble_eq_true rfl | omega)); (conv => whnf))
        | ((with_reducible refine @And.intro (@LT.lt Nat _ _ _) _ ?_ ?_); (· omega); (conv => whnf))
        | ((with_reducible refine @And.intro (∃ _, _ = _) _ ?_ ?_); (· exact ⟨_, rfl⟩); (conv => whnf))
        | ((with_reducible refine @And.intro (_ ∨ _) _ ?_ ?_); (· (first | exact Or.inl rfl | exact Or.inr rfl | exact t_b01 _ | assumption)); (conv => whnf))
        | ((with_reducible refine @And.intro (¬ (_ = _)) _ ?_ ?_); (· first | assumption | (with_reducible assumption)); (conv => whnf))
        | (refine hX _ _ _ _ _ _ ?_; (conv => whnf); fail_if_success show False)
        | (rw [c_si]; simp (disch := omega) only [xl_n, xl_m, nI_dec, nI_sb, xl_0, xl_1, cW_i, Nat.add_zero, Nat.reduceAdd, Nat.reduceMul, t_bn0, t_bn1, Classical.not_not, t_lt, nI_add, nI_1, pk_mul, nI_clamp, c_si, nI_eq, nI_leI, nM_ne, nM_ne, xm_u2_ne, xm_u2_at, reduceIte, Nat.reduceEqDiff]; (conv => whnf))
        | (refine ⟨_, rfl, ?_⟩; (conv => whnf))
        | (refine ⟨_, _, rfl, ?_⟩; (conv => whnf))
        | (refine ⟨_, _, _, rfl, ?_⟩; (conv => whnf))
        | (refine ⟨_, _, _, _, rfl, ?_⟩; (conv => whnf))
        | (rw [c_tl hr]; (conv => whnf))
        | (rw [c_t7 hr]; (conv => whnf))
        | (rw [c_tf hr (by decide)]; (conv => whnf))
        | (rw [c_t0 hr]; (conv => whnf))
        | (rw [c_t1 hr]; (conv => whnf))
        | (rw [c_t2 hr]; (conv => whnf))
        | (rw [c_t3 hr]; (conv => whnf))
        | (rw [c_t4 hr]; (conv => whnf))
        | (rw [c_t5 hr]; (conv => whnf))
        | (refine And.intro ⟨_, c_tl hr⟩ ?_; (conv => whnf))
        | (refine And.intro (fun c => ?_) (fun c => ?_) <;> (first | (exact absurd c (by decide +kernel)) | (conv => whnf)))
        | fail)
      clear hX hG
      simp (disch := omega) only [xl_n, xl_m, nI_dec, nI_sb, xl_0, xl_1, cW_i, Nat.add_zero, Nat.reduceAdd, Nat.reduceMul, t_bn0, t_bn1, Classical.not_not, t_lt, nI_add, nI_1, pk_mul, nI_clamp, c_si, nI_eq, nI_leI, nM_ne, nM_ne, xm_set] at *
      exact ih
  have fin := loop 0 (Nat.zero_le _)
  clear loop
  refine ⟨rfl, ?_⟩
  repeat' (first
    | ((with_reducible refine @And.intro (vp_in _ _) _ ?_ ?_); (· (first | with_reducible assumption | ((with_reducible refine t_vin ?_); decide) | ((with_reducible refine vp_in_nI ?_ ?_) <;> first | omega | decide) | (simp (disch := omega) only [xl_n, xl_m, nI_dec, nI_sb, nI_add, pk_mul]; (with_reducible refine vp_in_nI ?_ ?_) <;> first | omega | decide))); (conv => whnf))
    | (refine And.intro (by first | with_reducible assumption | exact (show cL _ _ = _ from rfl) | decide) ?_; (conv => whnf))
    | ((with_reducible refine @And.intro (_ = _) _ ?_ ?_); (· rfl); (conv => whnf))
    | ((with_reducible refine @And.intro (@LE.le Nat _ _ _) _ ?_ ?_); (· (first | exact Nat.zero_le _ | exact Nat.le_of_ble_eq_true rfl | omega)); (conv => whnf))
    | ((with_reducible refine @And.intro (@LT.lt Nat _ _ _) _ ?_ ?_); (· omega); (conv => whnf))
    | ((with_reducible refine @And.intro (∃ _, _ = _) _ ?_ ?_); (· exact ⟨_, rfl⟩); (conv => whnf))
    | ((with_reducible refine @And.intro (_ ∨ _) _ ?_ ?_); (· (first | exact Or.inl rfl | exact Or.inr rfl | exact t_b01 _ | assumption)); (conv => whnf))
    | ((with_reducible refine @And.intro (¬ (_ = _)) _ ?_ ?_); (· first | assumption | (with_reducible assumption)); (conv => whnf))
    | (refine hX _ _ _ _ _ _ ?_; (conv => whnf); fail_if_success show False)
    | (rw [c_si]; (conv => whnf))
    | (refine ⟨_, rfl, ?_⟩; (conv => whnf))
    | (refine ⟨_, _, rfl, ?_⟩; (conv => whnf))
    | (refine ⟨_, _, _, rfl, ?_⟩; (conv => whnf))
    | (refine ⟨_, _, _, _, rfl, ?_⟩; (conv => whnf))
    | (refine And.intro (fun c => ?_) (fun c => ?_) <;> (first | (exact absurd c (by decide +kernel)) | (conv => whnf)))
    | fail)
  exact fin
theorem ct_X1_stringsOf : xm_Ct cI yX1_stringsOf (ws_ yX1_stringsOf cX1_stringsOf 4 (some .int)) 1 0 0 S_X1_stringsOf := xm_enter (rt := 0) (init := false) (by decide +kernel) rfl (fun h => by cases h) (Or.inl ⟨rfl, rfl⟩) (oX1_stringsOf) body_X1_stringsOf
theorem cv_X1_stringsOf {own : String} {cc : ByteArray} {fr pc idx : Nat} (hdg : decode cc pc = .ok (.invokevirtual idx, 3)) (hl : xm_ml own idx yX1_stringsOf) (hfr : 1 < fr) : xm_CallOK cI own cc fr pc (pc + 3) 2 0 0 (xm_this 0 S_X1_stringsOf) := xm_callV 0 cI_good (ct_X1_stringsOf) hdg hl q1566 qs35 q116 q1567 rfl rfl (by decide +kernel) hfr (by decide)
abbrev bJ2_size_0 : List xE := [(.aload_n 0, 1, 0, 0, 0), (.getfield 48, 4, 18, 2, 0), (.ireturn, 5, 0, 0, 0)]
abbrev kJ2_size : List (Nat × List xE) := [(0, bJ2_size_0)]
abbrev lJ2_size : List (Nat × Nat × Nat × xS) := []
theorem oJ2_size_0  : xm_okb cI RJ2 cJ2_size false 1 lJ2_size bJ2_size_0 0 := xo_0 dJ2_size_0 rfl trivial (xo_0 dJ2_size_1 rfl (xm_fg_of (Or.inl q504) (by decide) rfl (by decide) rfl rfl (Or.inl rfl) rfl) (xo_0 dJ2_size_4 rfl trivial (xo_n)))
theorem oJ2_size  : ∀ q ∈ kJ2_size, xm_okb cI RJ2 cJ2_size false 1 lJ2_size q.2 q.1 := by
  intro q hq
  simp only [List.mem_cons, List.not_mem_nil, or_false] at hq
  subst hq
  exact oJ2_size_0  
def S_J2_size : xS := cU fun as P Z I Q QX => as = [.ref 40] ∧ Q (some (.int (I 40 2))) I
theorem body_J2_size : xm_Body 1 0 0 0 [] lJ2_size kJ2_size S_J2_size := by
  intro X avs w Q QX hX0 hS
  have hG := xm_go [] hX0
  have hX := xm_go [] hX0
  clear hX0
  obtain ⟨P, Z, I, rfl, rfl, hQ⟩ := hS
  refine ⟨rfl, ?_⟩
  repeat' (first
    | ((with_reducible refine @And.intro (vp_in _ _) _ ?_ ?_); (· (first | with_reducible assumption | ((with_reducible refine t_vin ?_); decide) | ((with_reducible refine vp_in_nI ?_ ?_) <;> first | omega | decide) | (simp (disch := omega) only [xl_n, xl_m, nI_dec, nI_sb, nI_add, pk_mul]; (with_reducible refine vp_in_nI ?_ ?_) <;> first | omega | decide))); (conv => whnf))
    | (refine And.intro (by first | with_reducible assumption | exact (show cL _ _ = _ from rfl) | decide) ?_; (conv => whnf))
    | ((with_reducible refine @And.intro (_ = _) _ ?_ ?_); (· rfl); (conv => whnf))
    | ((with_reducible refine @And.intro (@LE.le Nat _ _ _) _ ?_ ?_); (· (first | exact Nat.zero_le _ | exact Nat.le_of_ble_eq_true rfl | omega)); (conv => whnf))
    | ((with_reducible refine @And.intro (@LT.lt Nat _ _ _) _ ?_ ?_); (· omega); (conv => whnf))
    | ((with_reducible refine @And.intro (∃ _, _ = _) _ ?_ ?_); (· exact ⟨_, rfl⟩); (conv => whnf))
    | ((with_reducible refine @And.intro (_ ∨ _) _ ?_ ?_); (· (first | exact Or.inl rfl | exact Or.inr rfl | exact t_b01 _ | assumption)); (conv => whnf))
    | ((with_reducible refine @And.intro (¬ (_ = _)) _ ?_ ?_); (· first | assumption | (with_reducible assumption)); (conv => whnf))
    | (refine hX _ _ _ _ _ _ ?_; (conv => whnf); fail_if_success show False)
    | (rw [c_si]; (conv => whnf))
    | (refine ⟨_, rfl, ?_⟩; (conv => whnf))
    | (refine ⟨_, _, rfl, ?_⟩; (conv => whnf))
    | (refine ⟨_, _, _, rfl, ?_⟩; (conv => whnf))
    | (refine ⟨_, _, _, _, rfl, ?_⟩; (conv => whnf))
    | (refine And.intro (fun c => ?_) (fun c => ?_) <;> (first | (exact absurd c (by decide +kernel)) | (conv => whnf)))
    | fail)
  exact hQ
theorem ct_J2_size : xm_Ct cI yJ2_size (ws_ yJ2_size cJ2_size 1 (some .int)) 1 0 0 S_J2_size := xm_enter (rt := 0) (init := false) (by decide +kernel) rfl (fun h => by cases h) (Or.inl ⟨rfl, rfl⟩) (oJ2_size) body_J2_size
theorem cv_J2_size {own : String} {cc : ByteArray} {fr pc idx : Nat} (hdg : decode cc pc = .ok (.invokevirtual idx, 3)) (hl : xm_ml own idx yJ2_size) (hfr : 1 < fr) : xm_CallOK cI own cc fr pc (pc + 3) 1 0 0 (xm_this 18 S_J2_size) := xm_callV 18 cI_good (ct_J2_size) hdg hl q811 q812 q120 q813 rfl rfl (by decide +kernel) hfr (by decide)
abbrev bX1_needAct_0 : List xE := [(.aload_n 0, 1, 0, 0, 0), (.iload_n 1, 2, 0, 0, 0), (.aload_n 0, 3, 0, 0, 0), (.getfield 31, 6, 0, 0, 1), (.getfield 136, 9, 1, 10, 1), (.invokevirtual 140, 12, 0, 0, 9), (.invokevirtual 129, 15, 0, 1, 9), (.return_, 16, 0, 0, 0)]
abbrev kX1_needAct : List (Nat × List xE) := [(0, bX1_needAct_0)]
abbrev lX1_needAct : List (Nat × Nat × Nat × xS) := [(1, 0, 0, xm_this 18 S_J2_size), (3, 1, 6, xm_this 0 S_X1_needThere)]
theorem oX1_needAct_0  : xm_okb cI RX1 cX1_needAct false 7 lX1_needAct bX1_needAct_0 0 := xo_0 dX1_needAct_0 rfl trivial (xo_0 dX1_needAct_1 rfl trivial (xo_0 dX1_needAct_2 rfl trivial (xo_1 dX1_needAct_3 rfl (xm_fg_of (Or.inl q716) (by decide) rfl (by decide) rfl rfl (Or.inl rfl) rfl) (xo_1 dX1_needAct_6 rfl (xm_fg_of (Or.inr ⟨_, q552⟩) (by decide) rfl (by decide) rfl rfl (Or.inl rfl) rfl) (xo_c rfl (cv_J2_size dX1_needAct_9 (Or.inl q810) (by decide)) (xo_c rfl (cv_X1_needThere dX1_needAct_12 (Or.inl q1580) (by decide)) (xo_0 dX1_needAct_15 rfl trivial (xo_n))))))))
theorem oX1_needAct  : ∀ q ∈ kX1_needAct, xm_okb cI RX1 cX1_needAct false 7 lX1_needAct q.2 q.1 := by
  intro q hq
  simp only [List.mem_cons, List.not_mem_nil, or_false] at hq
  subst hq
  exact oX1_needAct_0  
def S_X1_needAct : xS := cU fun as P X I Q QX => ∃ v, as = [.ref 0, .int v] ∧ I 40 2 = nI P.1 ∧ P.1 ≤ 6 ∧ c_there v P.1 Q QX I
theorem body_X1_needAct : xm_Body 2 2 1 6 [] lX1_needAct kX1_needAct S_X1_needAct := by
  intro X avs w Q QX hX0 hS
  have hG := xm_go [] hX0
  have hX := xm_go [] hX0
  clear hX0
  obtain ⟨P, Z, I, rfl, v, rfl, e, h6, h1, h2⟩ := hS
  refine ⟨rfl, ?_⟩
  repeat' (first
    | ((with_reducible refine @And.intro (vp_in _ _) _ ?_ ?_); (· (first | with_reducible assumption | ((with_reducible refine t_vin ?_); decide) | ((with_reducible refine vp_in_nI ?_ ?_) <;> first | omega | decide) | (simp (disch := omega) only [xl_n, xl_m, nI_dec, nI_sb, nI_add, pk_mul]; (with_reducible refine vp_in_nI ?_ ?_) <;> first | omega | decide))); (conv => whnf))
    | (refine And.intro (by first | with_reducible assumption | exact (show cL _ _ = _ from rfl) | decide) ?_; (conv => whnf))
    | ((with_reducible refine @And.intro (_ = _) _ ?_ ?_); (· rfl); (conv => whnf))
    | ((with_reducible refine @And.intro (@LE.le Nat _ _ _) _ ?_ ?_); (· (first | exact Nat.zero_le _ | exact Nat.le_of_ble_eq_true rfl | omega)); (conv => whnf))
    | ((with_reducible refine @And.intro (@LT.lt Nat _ _ _) _ ?_ ?_); (· omega); (conv => whnf))
    | ((with_reducible refine @And.intro (∃ _, _ = _) _ ?_ ?_); (· exact ⟨_, rfl⟩); (conv => whnf))
    | ((with_reducible refine @And.intro (_ ∨ _) _ ?_ ?_); (· (first | exact Or.inl rfl | exact Or.inr rfl | exact t_b01 _ | assumption)); (conv => whnf))
    | ((with_reducible refine @And.intro (¬ (_ = _)) _ ?_ ?_); (· first | assumption | (with_reducible assumption)); (conv => whnf))
    | (refine hX _ _ _ _ _ _ ?_; (conv => whnf); fail_if_success show False)
    | (rw [c_si]; (conv => whnf))
    | (refine ⟨_, rfl, ?_⟩; (conv => whnf))
    | (refine ⟨_, _, rfl, ?_⟩; (conv => whnf))
    | (refine ⟨_, _, _, rfl, ?_⟩; (conv => whnf))
    | (refine ⟨_, _, _, _, rfl, ?_⟩; (conv => whnf))
    | (rw [e]; (conv => whnf))
    | (refine ⟨v,_,rfl,(by omega),c_there.i ?_ ?_⟩; (conv => whnf))
    | (refine And.intro (fun c => ?_) (fun c => ?_) <;> (first | (exact absurd c (by decide +kernel)) | (conv => whnf)))
    | fail)
  · exact h1 c
  · intro x hx
    exact h2 c x hx
theorem ct_X1_needAct : xm_Ct cI yX1_needAct (ws_ yX1_needAct cX1_needAct 2 none) 7 1 6 S_X1_needAct := xm_enter (rt := 2) (init := false) (by decide +kernel) rfl (fun h => by cases h) (Or.inr (Or.inr (Or.inl ⟨rfl, rfl⟩))) (oX1_needAct) body_X1_needAct
theorem cv_X1_needAct {own : String} {cc : ByteArray} {fr pc idx : Nat} (hdg : decode cc pc = .ok (.invokevirtual idx, 3)) (hl : xm_ml own idx yX1_needAct) (hfr : 7 < fr) : xm_CallOK cI own cc fr pc (pc + 3) 2 1 6 (xm_this 0 S_X1_needAct) := xm_callV 0 cI_good (ct_X1_needAct) hdg hl q1620 qs39 q116 q1621 rfl rfl (by decide +kernel) hfr (by decide)
theorem c_al {I : tI} {r : Nat} {L : List lC} (hi : c_is I r) : t_or (c_h I) (fun h => decide (I (10 * r) h = nI 1)) = g_alive (cK I L) (cA I r) := by
  unfold g_alive
  exact t_or_c fun h hh => (c_is_ald hi hh).symm
abbrev bX1_told_0 : List xE := [(.aload_n 0, 1, 0, 0, 0), (.iload_n 1, 2, 0, 0, 0), (.ifCond .lt 13, 5, 0, 15, 0), (.iload_n 1, 6, 0, 0, 0), (.bipush 6, 8, 0, 0, 0), (.if_icmp .gt 7, 11, 0, 15, 0), (.iconst 1, 12, 0, 0, 0), (.goto 4, 15, 0, 16, 0)]
abbrev bX1_told_15 : List xE := [(.iconst 0, 16, 0, 0, 0)]
abbrev bX1_told_16 : List xE := [(.invokevirtual 160, 19, 0, 0, 9), (.iload_n 1, 20, 0, 0, 0), (.tableswitch 95 0 5 #[40, 48, 56, 67, 75, 86], 60, 0, 0, 0)]
abbrev bX1_told_60 : List xE := [(.aload_n 0, 61, 0, 0, 0), (.getfield 31, 64, 0, 0, 1), (.getfield 126, 67, 1, 11, 0), (.ireturn, 68, 0, 0, 0)]
abbrev bX1_told_68 : List xE := [(.aload_n 0, 69, 0, 0, 0), (.getfield 31, 72, 0, 0, 1), (.getfield 133, 75, 1, 12, 0), (.ireturn, 76, 0, 0, 0)]
abbrev bX1_told_76 : List xE := [(.aload_n 0, 77, 0, 0, 0), (.getfield 31, 80, 0, 0, 1), (.getfield 136, 83, 1, 10, 1), (.invokevirtual 140, 86, 0, 1, 9), (.ireturn, 87, 0, 0, 0)]
abbrev bX1_told_87 : List xE := [(.aload_n 0, 88, 0, 0, 0), (.getfield 58, 91, 0, 5, 1), (.getfield 201, 94, 7, 6, 0), (.ireturn, 95, 0, 0, 0)]
abbrev bX1_told_95 : List xE := [(.aload_n 0, 96, 0, 0, 0), (.getfield 58, 99, 0, 5, 1), (.invokevirtual 204, 102, 0, 2, 9), (.invokestatic 207, 105, 0, 3, 9), (.ireturn, 106, 0, 0, 0)]
abbrev bX1_told_106 : List xE := [(.aload_n 0, 107, 0, 0, 0), (.aload_n 0, 108, 0, 0, 0), (.getfield 58, 111, 0, 5, 1), (.invokevirtual 213, 114, 0, 4, 9), (.ireturn, 115, 0, 0, 0)]
abbrev bX1_told_115 : List xE := [(.aload_n 0, 116, 0, 0, 0), (.getfield 104, 119, 0, 11, 0), (.ireturn, 120, 0, 0, 0)]
abbrev kX1_told : List (Nat × List xE) := [(0, bX1_told_0), (15, bX1_told_15), (16, bX1_told_16), (60, bX1_told_60), (68, bX1_told_68), (76, bX1_told_76), (87, bX1_told_87), (95, bX1_told_95), (106, bX1_told_106), (115, bX1_told_115)]
abbrev lX1_told : List (Nat × Nat × Nat × xS) := [(2, 1, 6, xm_this 0 S_X1_need), (1, 0, 0, xm_this 18 S_J2_size), (1, 0, 0, xm_this 7 S_X10_alive), (1, 0, 0, S_J16_bitCount), (2, 0, 0, xm_this 0 S_X1_stringsOf)]
theorem oX1_told_0  : xm_okb cI RX1 cX1_told false 7 lX1_told bX1_told_0 0 := xo_0 dX1_told_0 rfl trivial (xo_0 dX1_told_1 rfl trivial (xo_0 dX1_told_2 rfl rfl (xo_0 dX1_told_5 rfl trivial (xo_0 dX1_told_6 rfl (xo_bipush (by decide +kernel)) (xo_0 dX1_told_8 rfl rfl (xo_0 dX1_told_11 rfl trivial (xo_0 dX1_told_12 rfl rfl (xo_n))))))))
theorem oX1_told_15  : xm_okb cI RX1 cX1_told false 7 lX1_told bX1_told_15 15 := xo_0 dX1_told_15 rfl trivial (xo_n)
theorem oX1_told_16  : xm_okb cI RX1 cX1_told false 7 lX1_told bX1_told_16 16 := xo_c rfl (cv_X1_need dX1_told_16 (Or.inl q1030) (by decide)) (xo_0 dX1_told_19 rfl trivial (xo_s dX1_told_20 rfl (xo_tableswitch (by decide +kernel)) (xo_n)))
theorem oX1_told_60  : xm_okb cI RX1 cX1_told false 7 lX1_told bX1_told_60 60 := xo_0 dX1_told_60 rfl trivial (xo_1 dX1_told_61 rfl (xm_fg_of (Or.inl q716) (by decide) rfl (by decide) rfl rfl (Or.inl rfl) rfl) (xo_0 dX1_told_64 rfl (xm_fg_of (Or.inr ⟨_, q556⟩) (by decide) rfl (by decide) rfl rfl (Or.inl rfl) rfl) (xo_0 dX1_told_67 rfl trivial (xo_n))))
theorem oX1_told_68  : xm_okb cI RX1 cX1_told false 7 lX1_told bX1_told_68 68 := xo_0 dX1_told_68 rfl trivial (xo_1 dX1_told_69 rfl (xm_fg_of (Or.inl q716) (by decide) rfl (by decide) rfl rfl (Or.inl rfl) rfl) (xo_0 dX1_told_72 rfl (xm_fg_of (Or.inr ⟨_, q560⟩) (by decide) rfl (by decide) rfl rfl (Or.inl rfl) rfl) (xo_0 dX1_told_75 rfl trivial (xo_n))))
theorem oX1_told_76  : xm_okb cI RX1 cX1_told false 7 lX1_told bX1_told_76 76 := xo_0 dX1_told_76 rfl trivial (xo_1 dX1_told_77 rfl (xm_fg_of (Or.inl q716) (by decide) rfl (by decide) rfl rfl (Or.inl rfl) rfl) (xo_1 dX1_told_80 rfl (xm_fg_of (Or.inr ⟨_, q552⟩) (by decide) rfl (by decide) rfl rfl (Or.inl rfl) rfl) (xo_c rfl (cv_J2_size dX1_told_83 (Or.inl q810) (by decide)) (xo_0 dX1_told_86 rfl trivial (xo_n)))))
theorem oX1_told_87  : xm_okb cI RX1 cX1_told false 7 lX1_told bX1_told_87 87 := xo_0 dX1_told_87 rfl trivial (xo_1 dX1_told_88 rfl (xm_fg_of (Or.inl q724) (by decide) rfl (by decide) rfl rfl (Or.inl rfl) rfl) (xo_0 dX1_told_91 rfl (xm_fg_of (Or.inr ⟨_, q675⟩) (by decide) rfl (by decide) rfl rfl (Or.inl rfl) rfl) (xo_0 dX1_told_94 rfl trivial (xo_n))))
theorem oX1_told_95  : xm_okb cI RX1 cX1_told false 7 lX1_told bX1_told_95 95 := xo_0 dX1_told_95 rfl trivial (xo_1 dX1_told_96 rfl (xm_fg_of (Or.inl q724) (by decide) rfl (by decide) rfl rfl (Or.inl rfl) rfl) (xo_c rfl (cv_X10_alive dX1_told_99 (Or.inl q802) (by decide)) (xo_c rfl (cv_J16_bitCount dX1_told_102 (Or.inl q846) (by decide)) (xo_0 dX1_told_105 rfl trivial (xo_n)))))
theorem oX1_told_106  : xm_okb cI RX1 cX1_told false 7 lX1_told bX1_told_106 106 := xo_0 dX1_told_106 rfl trivial (xo_0 dX1_told_107 rfl trivial (xo_1 dX1_told_108 rfl (xm_fg_of (Or.inl q724) (by decide) rfl (by decide) rfl rfl (Or.inl rfl) rfl) (xo_c rfl (cv_X1_stringsOf dX1_told_111 (Or.inl q1564) (by decide)) (xo_0 dX1_told_114 rfl trivial (xo_n)))))
theorem oX1_told_115  : xm_okb cI RX1 cX1_told false 7 lX1_told bX1_told_115 115 := xo_0 dX1_told_115 rfl trivial (xo_0 dX1_told_116 rfl (xm_fg_of (Or.inl q730) (by decide) rfl (by decide) rfl rfl (Or.inl rfl) rfl) (xo_0 dX1_told_119 rfl trivial (xo_n)))
theorem oX1_told  : ∀ q ∈ kX1_told, xm_okb cI RX1 cX1_told false 7 lX1_told q.2 q.1 := by
  intro q hq
  simp only [List.mem_cons, List.not_mem_nil, or_false] at hq
  rcases hq with rfl | rfl | rfl | rfl | rfl | rfl | rfl | rfl | rfl | rfl
  · exact oX1_told_0  
  · exact oX1_told_15  
  · exact oX1_told_16  
  · exact oX1_told_60  
  · exact oX1_told_68  
  · exact oX1_told_76  
  · exact oX1_told_87  
  · exact oX1_told_95  
  · exact oX1_told_106  
  · exact oX1_told_115  
def S_X1_told : xS := cU fun as P Z I Q QX => ∃ a L, as = [.ref 0, .int a] ∧ c_good P Z I L ∧ c_P P Z L (cG P I L) Q QX (q_told (cG P I L) a)
theorem body_X1_told : xm_Body 2 0 1 6 [] lX1_told kX1_told S_X1_told := by
  intro X avs w Q QX hX0 hS
  have hG := xm_go [] hX0
  have hX := xm_go [] hX0
  clear hX0
  obtain ⟨P, Z, I, rfl, a, L, rfl, hg, hQ⟩ := hS
  have hok := hg.ok
  obtain ⟨hn, h9, hm, h8⟩ := id hok
  have h5 := c_5 (P := P)
  have ht := hg.now
  have hi := ht.2.2.1
  rcases c_rc a 0 6 (A := 0) (B := Int32.ofInt 6) (by decide +kernel) (by decide +kernel) (by omega) (by omega) with ⟨n, -, hn6, rfl, e1⟩ | ⟨e1, h1⟩ | ⟨e1, h1, h2⟩
  · have q : n = 0 ∨ n = 1 ∨ n = 2 ∨ n = 3 ∨ n = 4 ∨ n = 5 ∨ n = 6 := by omega
    rw [q_told, e1, g_ck_t, nI_clamp (by omega)] at hQ
    rcases q with rfl | rfl | rfl | rfl | rfl | rfl | rfl
    all_goals
      refine ⟨rfl, ?_⟩
      repeat' (first
        | ((with_reducible refine @And.intro (vp_in _ _) _ ?_ ?_); (· (first | with_reducible assumption | ((with_reducible refine t_vin ?_); decide) | ((with_reducible refine vp_in_nI ?_ ?_) <;> first | omega | decide) | (simp (disch := omega) only [xl_n, xl_m, nI_dec, nI_sb, nI_add, pk_mul]; (with_reducible refine vp_in_nI ?_ ?_) <;> first | omega | decide))); (conv => whnf))
        | (refine And.intro (by first | with_reducible assumption | exact (show cL _ _ = _ from rfl) | decide) ?_; (conv => whnf))
        | ((with_reducible refine @And.intro (_ = _) _ ?_ ?_); (· rfl); (conv => whnf))
        | ((with_reducible refine @And.intro (@LE.le Nat _ _ _) _ ?_ ?_); (· (first | exact Nat.zero_le _ | exact Nat.le_of_ble_eq_true rfl | omega)); (conv => whnf))
        | ((with_reducible refine @And.intro (@LT.lt Nat _ _ _) _ ?_ ?_); (· omega); (conv => whnf))
        | ((with_reducible refine @And.intro (∃ _, _ = _) _ ?_ ?_); (· exact ⟨_, rfl⟩); (conv => whnf))
        | ((with_reducible refine @And.intro (_ ∨ _) _ ?_ ?_); (· (first | exact Or.inl rfl | exact Or.inr rfl | exact t_b01 _ | assumption)); (conv => whnf))
        | ((with_reducible refine @And.intro (¬ (_ = _)) _ ?_ ?_); (· first | assumption | (with_reducible assumption)); (conv => whnf))
        | (refine hX _ _ _ _ _ _ ?_; (conv => whnf); fail_if_success show False)
        | (rw [c_si]; (conv => whnf))
        | (refine ⟨_, rfl, ?_⟩; (conv => whnf))
        | (refine ⟨_, _, rfl, ?_⟩; (conv => whnf))
        | (refine ⟨_, _, _, rfl, ?_⟩; (conv => whnf))
        | (refine ⟨_, _, _, _, rfl, ?_⟩; (conv => whnf))
        | (refine ⟨true,rfl,?_⟩; (conv => whnf))
        | (refine ⟨false,rfl,?_⟩; (conv => whnf))
        | (refine And.intro (fun c => ?_) (fun c => ?_) <;> (first | (exact absurd c (by decide +kernel)) | (conv => whnf)))
        | fail)
      simp (disch := omega) [xm_tsw, xm_tgt, xl_n, nI_eq, nI_toInt]
      repeat' (first
        | ((with_reducible refine @And.intro (vp_in _ _) _ ?_ ?_); (· (first | with_reducible assumption | ((with_reducible refine t_vin ?_); decide) | ((with_reducible refine vp_in_nI ?_ ?_) <;> first | omega | decide) | (simp (disch := omega) only [xl_n, xl_m, nI_dec, nI_sb, nI_add, pk_mul]; (with_reducible refine vp_in_nI ?_ ?_) <;> first | omega | decide))); (conv => whnf))
        | (refine And.intro (by first | with_reducible assumption | exact (show cL _ _ = _ from rfl) | decide) ?_; (conv => whnf))
        | ((with_reducible refine @And.intro (_ = _) _ ?_ ?_); (· rfl); (conv => whnf))
        | ((with_reducible refine @And.intro (@LE.le Nat _ _ _) _ ?_ ?_); (· (first | exact Nat.zero_le _ | exact Nat.le_of_ble_eq_true rfl | omega)); (conv => whnf))
        | ((with_reducible refine @And.intro (@LT.lt Nat _ _ _) _ ?_ ?_); (· omega); (conv => whnf))
        | ((with_reducible refine @And.intro (∃ _, _ = _) _ ?_ ?_); (· exact ⟨_, rfl⟩); (conv => whnf))
        | ((with_reducible refine @And.intro (_ ∨ _) _ ?_ ?_); (· (first | exact Or.inl rfl | exact Or.inr rfl | exact t_b01 _ | assumption)); (conv => whnf))
        | ((with_reducible refine @And.intro (¬ (_ = _)) _ ?_ ?_); (· first | assumption | (with_reducible assumption)); (conv => whnf))
        | (refine hX _ _ _ _ _ _ ?_; (conv => whnf); fail_if_success show False)
        | (rw [c_si]; (conv => whnf))
        | (refine ⟨_, rfl, ?_⟩; (conv => whnf))
        | (refine ⟨_, _, rfl, ?_⟩; (conv => whnf))
        | (refine ⟨_, _, _, rfl, ?_⟩; (conv => whnf))
        | (refine ⟨_, _, _, _, rfl, ?_⟩; (conv => whnf))
        | (refine ⟨5,rfl,h5,hok,hi,?_⟩; (conv => whnf))
        | (refine And.intro (t_or_m9 (by omega)) ?_; (conv => whnf))
        | (refine ⟨5,L,rfl,h5,hok,?_⟩; (conv => whnf))
        | (rw [c_tl h5]; (conv => whnf))
        | (rw [c_t7 h5]; (conv => whnf))
        | (rw [c_tf h5 (by decide)]; (conv => whnf))
        | (rw [c_t0 h5]; (conv => whnf))
        | (rw [c_t1 h5]; (conv => whnf))
        | (rw [c_t2 h5]; (conv => whnf))
        | (rw [c_t3 h5]; (conv => whnf))
        | (rw [c_t4 h5]; (conv => whnf))
        | (rw [c_t5 h5]; (conv => whnf))
        | (refine And.intro ⟨_, c_tl h5⟩ ?_; (conv => whnf))
        | (refine And.intro (fun c => ?_) (fun c => ?_) <;> (first | (exact absurd c (by decide +kernel)) | (conv => whnf)))
        | fail)
    · exact c_ask hQ hg c_sp.rf hn
    · exact c_ask hQ hg c_sp.rf hm
    · exact c_ask hQ hg c_sp.rf hg.2.2.1.2.1
    · exact c_ask hQ hg c_sp.rf rfl
    · exact c_ask hQ hg c_sp.rf (congrArg t_ones (c_al hi))
    · exact c_ask hQ hg c_sp.rf rfl
    · exact c_ask hQ hg c_sp.rf hg.2.2.2.2.2.2.1.1
  all_goals
    refine ⟨rfl, ?_⟩
    repeat' (first
      | ((with_reducible refine @And.intro (vp_in _ _) _ ?_ ?_); (· (first | with_reducible assumption | ((with_reducible refine t_vin ?_); decide) | ((with_reducible refine vp_in_nI ?_ ?_) <;> first | omega | decide) | (simp (disch := omega) only [xl_n, xl_m, nI_dec, nI_sb, nI_add, pk_mul]; (with_reducible refine vp_in_nI ?_ ?_) <;> first | omega | decide))); (conv => whnf))
      | (refine And.intro (by first | with_reducible assumption | exact (show cL _ _ = _ from rfl) | decide) ?_; (conv => whnf))
      | ((with_reducible refine @And.intro (_ = _) _ ?_ ?_); (· rfl); (conv => whnf))
      | ((with_reducible refine @And.intro (@LE.le Nat _ _ _) _ ?_ ?_); (· (first | exact Nat.zero_le _ | exact Nat.le_of_ble_eq_true rfl | omega)); (conv => whnf))
      | ((with_reducible refine @And.intro (@LT.lt Nat _ _ _) _ ?_ ?_); (· omega); (conv => whnf))
      | ((with_reducible refine @And.intro (∃ _, _ = _) _ ?_ ?_); (· exact ⟨_, rfl⟩); (conv => whnf))
      | ((with_reducible refine @And.intro (_ ∨ _) _ ?_ ?_); (· (first | exact Or.inl rfl | exact Or.inr rfl | exact t_b01 _ | assumption)); (conv => whnf))
      | ((with_reducible refine @And.intro (¬ (_ = _)) _ ?_ ?_); (· first | assumption | (with_reducible assumption)); (conv => whnf))
      | (refine hX _ _ _ _ _ _ ?_; (conv => whnf); fail_if_success show False)
      | (rw [c_si]; (conv => whnf))
      | (refine ⟨_, rfl, ?_⟩; (conv => whnf))
      | (refine ⟨_, _, rfl, ?_⟩; (conv => whnf))
      | (refine ⟨_, _, _, rfl, ?_⟩; (conv => whnf))
      | (refine ⟨_, _, _, _, rfl, ?_⟩; (conv => whnf))
      | (refine ⟨true,rfl,?_⟩; (conv => whnf))
      | (refine ⟨false,rfl,?_⟩; (conv => whnf))
      | (refine And.intro (fun c => ?_) (fun c => ?_) <;> (first | (exact absurd c (by decide +kernel)) | (exact absurd c (by assumption)) | (exact False.elim (c (by assumption))) | (conv => whnf)))
      | fail)
    intro x hx
    exact c_ref1 hQ hg e1 hx n1_0
theorem ct_X1_told : xm_Ct cI yX1_told (ws_ yX1_told cX1_told 2 (some .int)) 7 1 6 S_X1_told := xm_enter (rt := 0) (init := false) (by decide +kernel) rfl (fun h => by cases h) (Or.inl ⟨rfl, rfl⟩) (oX1_told) body_X1_told
theorem cv_X1_told {own : String} {cc : ByteArray} {fr pc idx : Nat} (hdg : decode cc pc = .ok (.invokevirtual idx, 3)) (hl : xm_ml own idx yX1_told) (hfr : 7 < fr) : xm_CallOK cI own cc fr pc (pc + 3) 2 1 6 (xm_this 0 S_X1_told) := xm_callV 0 cI_good (ct_X1_told) hdg hl q1561 q1562 q116 q1563 rfl rfl (by decide +kernel) hfr (by decide)
