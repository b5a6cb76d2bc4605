/-! ===== the component: simple questions ===== -/
set_option maxRecDepth 100000
abbrev bX1_fault_0 : List xE := [(.aload_n 0, 1, 0, 0, 0), (.getfield 76, 4, 0, 14, 0), (.ireturn, 5, 0, 0, 0)]
abbrev kX1_fault : List (Nat × List xE) := [(0, bX1_fault_0)]
abbrev lX1_fault : List (Nat × Nat × Nat × xS) := []
theorem oX1_fault_0  : xm_okb cI RX1 cX1_fault false 1 lX1_fault bX1_fault_0 0 := xo_0 dX1_fault_0 rfl trivial (xo_0 dX1_fault_1 rfl (xm_fg_of (Or.inl q733) (by decide) rfl (by decide) rfl rfl (Or.inl rfl) rfl) (xo_0 dX1_fault_4 rfl trivial (xo_n)))
theorem oX1_fault  : ∀ q ∈ kX1_fault, xm_okb cI RX1 cX1_fault false 1 lX1_fault q.2 q.1 := by
  intro q hq
  simp only [List.mem_cons, List.not_mem_nil, or_false] at hq
  subst hq
  exact oX1_fault_0  
def S_X1_fault : xS := cU fun as P Z I Q QX => ∃ L, as = [.ref 0] ∧ c_good P Z I L ∧ c_P P Z L (cG P I L) Q QX (q_fault (cG P I L))
theorem body_X1_fault : xm_Body 1 0 0 0 [] lX1_fault kX1_fault S_X1_fault := by
  intro X avs w Q QX hX0 hS
  have hG := xm_go [] hX0
  have hX := xm_go [] hX0
  clear hX0
  obtain ⟨P, Z, I, rfl, L, rfl, hg, hQ⟩ := hS
  refine ⟨rfl, ?_⟩
  repeat' (first
    | ((with_reducible refine @And.intro (vp_in _ _) _ ?_ ?_); (· (first | with_reducible assumption | ((with_reducible refine t_vin ?_); decide) | ((with_reducible refine vp_in_nI ?_ ?_) <;> first | omega | decide) | (simp (disch := omega) only [xl_n, xl_m, nI_dec, nI_sb, nI_add, pk_mul]; (with_reducible refine vp_in_nI ?_ ?_) <;> first | omega | decide))); (conv => whnf))
    | (refine And.intro (by first | with_reducible assumption | exact (show cL _ _ = _ from rfl) | decide) ?_; (conv => whnf))
    | ((with_reducible refine @And.intro (_ = _) _ ?_ ?_); (· rfl); (conv => whnf))
    | ((with_reducible refine @And.intro (@LE.le Nat _ _ _) _ ?_ ?_); (· (first | exact Nat.zero_le _ | exact Nat.le_of_ble_eq_true rfl | omega)); (conv => whnf))
    | ((with_reducible refine @And.intro (@LT.lt Nat _ _ _) _ ?_ ?_); (· omega); (conv => whnf))
    | ((with_reducible refine @And.intro (∃ _, _ = _) _ ?_ ?_); (· exact ⟨_, rfl⟩); (conv => whnf))
    | ((with_reducible refine @And.intro (_ ∨ _) _ ?_ ?_); (· (first | exact Or.inl rfl | exact Or.inr rfl | exact t_b01 _ | assumption)); (conv => whnf))
    | ((with_reducible refine @And.intro (¬ (_ = _)) _ ?_ ?_); (· first | assumption | (with_reducible assumption)); (conv => whnf))
    | (refine hX _ _ _ _ _ _ ?_; (conv => whnf); fail_if_success show False)
    | (rw [c_si]; (conv => whnf))
    | (refine ⟨_, rfl, ?_⟩; (conv => whnf))
    | (refine ⟨_, _, rfl, ?_⟩; (conv => whnf))
    | (refine ⟨_, _, _, rfl, ?_⟩; (conv => whnf))
    | (refine ⟨_, _, _, _, rfl, ?_⟩; (conv => whnf))
    | (refine And.intro (fun c => ?_) (fun c => ?_) <;> (first | (exact absurd c (by decide +kernel)) | (conv => whnf)))
    | fail)
  exact c_ask hQ hg c_sp.rf rfl
theorem ct_X1_fault : xm_Ct cI yX1_fault (ws_ yX1_fault cX1_fault 1 (some .int)) 1 0 0 S_X1_fault := xm_enter (rt := 0) (init := false) (by decide +kernel) rfl (fun h => by cases h) (Or.inl ⟨rfl, rfl⟩) (oX1_fault) body_X1_fault
theorem cv_X1_fault {own : String} {cc : ByteArray} {fr pc idx : Nat} (hdg : decode cc pc = .ok (.invokevirtual idx, 3)) (hl : xm_ml own idx yX1_fault) (hfr : 1 < fr) : xm_CallOK cI own cc fr pc (pc + 3) 1 0 0 (xm_this 0 S_X1_fault) := xm_callV 0 cI_good (ct_X1_fault) hdg hl q795 q796 q116 q797 rfl rfl (by decide +kernel) hfr (by decide)
abbrev bX1_count_0 : List xE := [(.iload_n 1, 1, 0, 0, 0), (.ifCond .ne 10, 4, 0, 11, 0), (.aload_n 0, 5, 0, 0, 0), (.getfield 107, 8, 0, 15, 0), (.goto 39, 11, 0, 47, 0)]
abbrev bX1_count_11 : List xE := [(.iload_n 1, 12, 0, 0, 0), (.iconst 1, 13, 0, 0, 0), (.if_icmp .ne 10, 16, 0, 23, 0), (.aload_n 0, 17, 0, 0, 0), (.getfield 146, 20, 0, 13, 0), (.goto 27, 23, 0, 47, 0)]
abbrev bX1_count_23 : List xE := [(.iload_n 1, 24, 0, 0, 0), (.iconst 2, 25, 0, 0, 0), (.if_icmp .ne 21, 28, 0, 46, 0), (.aload_n 0, 29, 0, 0, 0), (.getfield 58, 32, 0, 5, 1), (.getfield 201, 35, 7, 6, 0), (.aload_n 0, 36, 0, 0, 0), (.getfield 62, 39, 0, 6, 1), (.getfield 201, 42, 7, 6, 0), (.isub, 43, 0, 0, 0), (.goto 4, 46, 0, 47, 0)]
abbrev bX1_count_46 : List xE := [(.iconst (-1), 47, 0, 0, 0)]
abbrev bX1_count_47 : List xE := [(.ireturn, 48, 0, 0, 0)]
abbrev kX1_count : List (Nat × List xE) := [(0, bX1_count_0), (11, bX1_count_11), (23, bX1_count_23), (46, bX1_count_46), (47, bX1_count_47)]
abbrev lX1_count : List (Nat × Nat × Nat × xS) := []
theorem oX1_count_0  : xm_okb cI RX1 cX1_count false 1 lX1_count bX1_count_0 0 := xo_0 dX1_count_0 rfl trivial (xo_0 dX1_count_1 rfl rfl (xo_0 dX1_count_4 rfl trivial (xo_0 dX1_count_5 rfl (xm_fg_of (Or.inl q734) (by decide) rfl (by decide) rfl rfl (Or.inl rfl) rfl) (xo_0 dX1_count_8 rfl rfl (xo_n)))))
theorem oX1_count_11  : xm_okb cI RX1 cX1_count false 1 lX1_count bX1_count_11 11 := xo_0 dX1_count_11 rfl trivial (xo_0 dX1_count_12 rfl trivial (xo_0 dX1_count_13 rfl rfl (xo_0 dX1_count_16 rfl trivial (xo_0 dX1_count_17 rfl (xm_fg_of (Or.inl q732) (by decide) rfl (by decide) rfl rfl (Or.inl rfl) rfl) (xo_0 dX1_count_20 rfl rfl (xo_n))))))
theorem oX1_count_23  : xm_okb cI RX1 cX1_count false 1 lX1_count bX1_count_23 23 := xo_0 dX1_count_23 rfl trivial (xo_0 dX1_count_24 rfl trivial (xo_0 dX1_count_25 rfl rfl (xo_0 dX1_count_28 rfl trivial (xo_1 dX1_count_29 rfl (xm_fg_of (Or.inl q724) (by decide) rfl (by decide) rfl rfl (Or.inl rfl) rfl) (xo_0 dX1_count_32 rfl (xm_fg_of (Or.inr ⟨_, q675⟩) (by decide) rfl (by decide) rfl rfl (Or.inl rfl) rfl) (xo_0 dX1_count_35 rfl trivial (xo_1 dX1_count_36 rfl (xm_fg_of (Or.inl q725) (by decide) rfl (by decide) rfl rfl (Or.inl rfl) rfl) (xo_0 dX1_count_39 rfl (xm_fg_of (Or.inr ⟨_, q675⟩) (by decide) rfl (by decide) rfl rfl (Or.inl rfl) rfl) (xo_0 dX1_count_42 rfl trivial (xo_0 dX1_count_43 rfl rfl (xo_n)))))))))))
theorem oX1_count_46  : xm_okb cI RX1 cX1_count false 1 lX1_count bX1_count_46 46 := xo_0 dX1_count_46 rfl trivial (xo_n)
theorem oX1_count_47  : xm_okb cI RX1 cX1_count false 1 lX1_count bX1_count_47 47 := xo_0 dX1_count_47 rfl trivial (xo_n)
theorem oX1_count  : ∀ q ∈ kX1_count, xm_okb cI RX1 cX1_count false 1 lX1_count q.2 q.1 := by
  intro q hq
  simp only [List.mem_cons, List.not_mem_nil, or_false] at hq
  rcases hq with rfl | rfl | rfl | rfl | rfl
  · exact oX1_count_0  
  · exact oX1_count_11  
  · exact oX1_count_23  
  · exact oX1_count_46  
  · exact oX1_count_47  
def S_X1_count : xS := cU fun as P Z I Q QX => ∃ a L, as = [.ref 0, .int a] ∧ c_good P Z I L ∧ c_P P Z L (cG P I L) Q QX (q_count (cG P I L) a)
theorem body_X1_count : xm_Body 2 0 0 0 [] lX1_count kX1_count S_X1_count := by
  intro X avs w Q QX hX0 hS
  have hG := xm_go [] hX0
  have hX := xm_go [] hX0
  clear hX0
  obtain ⟨P, Z, I, rfl, a, L, rfl, hg, hQ⟩ := hS
  have ei : gimn (cG P I L) = c_im I := rfl
  have et : gtape (cG P I L) = c_tp I := rfl
  have eg : ggone (cG P I L) = I 5 6 - I 6 6 := rfl
  rw [q_count, ei, ← hg.2.2.2.2.2.1.1, et, ← hg.2.2.2.2.2.2.2.1.1, eg] at hQ
  refine ⟨rfl, ?_⟩
  repeat' (first
    | ((with_reducible refine @And.intro (vp_in _ _) _ ?_ ?_); (· (first | with_reducible assumption | ((with_reducible refine t_vin ?_); decide) | ((with_reducible refine vp_in_nI ?_ ?_) <;> first | omega | decide) | (simp (disch := omega) only [xl_n, xl_m, nI_dec, nI_sb, nI_add, pk_mul]; (with_reducible refine vp_in_nI ?_ ?_) <;> first | omega | decide))); (conv => whnf))
    | (refine And.intro (by first | with_reducible assumption | exact (show cL _ _ = _ from rfl) | decide) ?_; (conv => whnf))
    | ((with_reducible refine @And.intro (_ = _) _ ?_ ?_); (· rfl); (conv => whnf))
    | ((with_reducible refine @And.intro (@LE.le Nat _ _ _) _ ?_ ?_); (· (first | exact Nat.zero_le _ | exact Nat.le_of_ble_eq_true rfl | omega)); (conv => whnf))
    | ((with_reducible refine @And.intro (@LT.lt Nat _ _ _) _ ?_ ?_); (· omega); (conv => whnf))
    | ((with_reducible refine @And.intro (∃ _, _ = _) _ ?_ ?_); (· exact ⟨_, rfl⟩); (conv => whnf))
    | ((with_reducible refine @And.intro (_ ∨ _) _ ?_ ?_); (· (first | exact Or.inl rfl | exact Or.inr rfl | exact t_b01 _ | assumption)); (conv => whnf))
    | ((with_reducible refine @And.intro (¬ (_ = _)) _ ?_ ?_); (· first | assumption | (with_reducible assumption)); (conv => whnf))
    | (refine hX _ _ _ _ _ _ ?_; (conv => whnf); fail_if_success show False)
    | (rw [c_si]; (conv => whnf))
    | (refine ⟨_, rfl, ?_⟩; (conv => whnf))
    | (refine ⟨_, _, rfl, ?_⟩; (conv => whnf))
    | (refine ⟨_, _, _, rfl, ?_⟩; (conv => whnf))
    | (refine ⟨_, _, _, _, rfl, ?_⟩; (conv => whnf))
    | (refine And.intro (fun c => ?_) (fun c => ?_) <;> (first | (exact absurd c (by decide +kernel)) | (conv => whnf)))
    | fail)
  all_goals refine c_ask hQ hg c_sp.rf ?_
  all_goals clear hX hG hQ
  all_goals simp (disch := omega) only [xl_n, xl_m, nI_dec, nI_sb, xl_0, xl_1, cW_i, Nat.add_zero, Nat.reduceAdd, Nat.reduceMul, t_bn0, t_bn1, Classical.not_not, t_lt, nI_add, nI_1, pk_mul, nI_clamp, c_si, nI_eq, nI_leI, nM_ne, nM_ne] at *
  all_goals simp_all
  all_goals rfl
theorem ct_X1_count : xm_Ct cI yX1_count (ws_ yX1_count cX1_count 2 (some .int)) 1 0 0 S_X1_count := xm_enter (rt := 0) (init := false) (by decide +kernel) rfl (fun h => by cases h) (Or.inl ⟨rfl, rfl⟩) (oX1_count) body_X1_count
theorem cv_X1_count {own : String} {cc : ByteArray} {fr pc idx : Nat} (hdg : decode cc pc = .ok (.invokevirtual idx, 3)) (hl : xm_ml own idx yX1_count) (hfr : 1 < fr) : xm_CallOK cI own cc fr pc (pc + 3) 2 0 0 (xm_this 0 S_X1_count) := xm_callV 0 cI_good (ct_X1_count) hdg hl q1018 q1019 q116 q1020 rfl rfl (by decide +kernel) hfr (by decide)
abbrev bX1_liesBy_0 : List xE := [(.aload_n 0, 1, 0, 0, 0), (.getfield 31, 4, 0, 0, 1), (.getfield 241, 7, 1, 5, 1), (.iload_n 1, 8, 0, 0, 0), (.iaload, 9, 0, 0, 0), (.iconst 3, 10, 0, 0, 0), (.aload_n 0, 11, 0, 0, 0), (.getfield 31, 14, 0, 0, 1), (.getfield 117, 17, 1, 0, 1), (.iload_n 2, 18, 0, 0, 0), (.iaload, 19, 0, 0, 0), (.imul, 20, 0, 0, 0), (.iadd, 21, 0, 0, 0), (.aload_n 0, 22, 0, 0, 0), (.getfield 58, 25, 0, 5, 1), (.getfield 198, 28, 7, 3, 1), (.iload_n 1, 29, 0, 0, 0), (.iaload, 30, 0, 0, 0), (.iadd, 31, 0, 0, 0), (.bipush 16, 33, 0, 0, 0), (.irem, 34, 0, 0, 0), (.ireturn, 35, 0, 0, 0)]
abbrev kX1_liesBy : List (Nat × List xE) := [(0, bX1_liesBy_0)]
abbrev lX1_liesBy : List (Nat × Nat × Nat × xS) := []
theorem oX1_liesBy_0  : xm_okb cI RX1 cX1_liesBy false 1 lX1_liesBy bX1_liesBy_0 0 := xo_0 dX1_liesBy_0 rfl trivial (xo_1 dX1_liesBy_1 rfl (xm_fg_of (Or.inl q716) (by decide) rfl (by decide) rfl rfl (Or.inl rfl) rfl) (xo_1 dX1_liesBy_4 rfl (xm_fg_of (Or.inr ⟨_, q535⟩) (by decide) rfl (by decide) rfl rfl (Or.inl rfl) rfl) (xo_0 dX1_liesBy_7 rfl trivial (xo_0 dX1_liesBy_8 rfl trivial (xo_0 dX1_liesBy_9 rfl trivial (xo_0 dX1_liesBy_10 rfl trivial (xo_1 dX1_liesBy_11 rfl (xm_fg_of (Or.inl q716) (by decide) rfl (by decide) rfl rfl (Or.inl rfl) rfl) (xo_1 dX1_liesBy_14 rfl (xm_fg_of (Or.inr ⟨_, q516⟩) (by decide) rfl (by decide) rfl rfl (Or.inl rfl) rfl) (xo_0 dX1_liesBy_17 rfl trivial (xo_0 dX1_liesBy_18 rfl trivial (xo_0 dX1_liesBy_19 rfl trivial (xo_0 dX1_liesBy_20 rfl trivial (xo_0 dX1_liesBy_21 rfl trivial (xo_1 dX1_liesBy_22 rfl (xm_fg_of (Or.inl q724) (by decide) rfl (by decide) rfl rfl (Or.inl rfl) rfl) (xo_1 dX1_liesBy_25 rfl (xm_fg_of (Or.inr ⟨_, q669⟩) (by decide) rfl (by decide) rfl rfl (Or.inl rfl) rfl) (xo_0 dX1_liesBy_28 rfl trivial (xo_0 dX1_liesBy_29 rfl trivial (xo_0 dX1_liesBy_30 rfl trivial (xo_0 dX1_liesBy_31 rfl (xo_bipush (by decide +kernel)) (xo_0 dX1_liesBy_33 rfl trivial (xo_0 dX1_liesBy_34 rfl trivial (xo_n))))))))))))))))))))))
theorem oX1_liesBy  : ∀ q ∈ kX1_liesBy, xm_okb cI RX1 cX1_liesBy false 1 lX1_liesBy q.2 q.1 := by
  intro q hq
  simp only [List.mem_cons, List.not_mem_nil, or_false] at hq
  subst hq
  exact oX1_liesBy_0  
def S_X1_liesBy : xS := cU fun as P Z I Q QX => ∃ p h L, as = [.ref 0, .int (nI p), .int (nI h)] ∧ c_good P Z I L ∧ p < c_p I ∧ h < c_h I ∧ Q (some (.int (g_lies (cG P I L) p h))) I
theorem body_X1_liesBy : xm_Body 3 0 0 0 [] lX1_liesBy kX1_liesBy S_X1_liesBy := by
  intro X avs w Q QX hX0 hS
  have hG := xm_go [] hX0
  have hX := xm_go [] hX0
  clear hX0
  obtain ⟨P, Z, I, rfl, p, h, L, rfl, hg, hp, hh, hQ⟩ := hS
  have hok := hg.ok
  obtain ⟨hn, h9, hm, h8⟩ := id hok
  have h5 := c_5 (P := P)
  refine ⟨rfl, ?_⟩
  repeat' (first
    | ((with_reducible refine @And.intro (vp_in _ _) _ ?_ ?_); (· (first | with_reducible assumption | ((with_reducible refine t_vin ?_); decide) | ((with_reducible refine vp_in_nI ?_ ?_) <;> first | omega | decide) | (simp (disch := omega) only [xl_n, xl_m, nI_dec, nI_sb, nI_add, pk_mul]; (with_reducible refine vp_in_nI ?_ ?_) <;> first | omega | decide))); (conv => whnf))
    | (refine And.intro (by first | with_reducible assumption | exact (show cL _ _ = _ from rfl) | decide) ?_; (conv => whnf))
    | ((with_reducible refine @And.intro (_ = _) _ ?_ ?_); (· rfl); (conv => whnf))
    | ((with_reducible refine @And.intro (@LE.le Nat _ _ _) _ ?_ ?_); (· (first | exact Nat.zero_le _ | exact Nat.le_of_ble_eq_true rfl | omega)); (conv => whnf))
    | ((with_reducible refine @And.intro (@LT.lt Nat _ _ _) _ ?_ ?_); (· omega); (conv => whnf))
    | ((with_reducible refine @And.intro (∃ _, _ = _) _ ?_ ?_); (· exact ⟨_, rfl⟩); (conv => whnf))
    | ((with_reducible refine @And.intro (_ ∨ _) _ ?_ ?_); (· (first | exact Or.inl rfl | exact Or.inr rfl | exact t_b01 _ | assumption)); (conv => whnf))
    | ((with_reducible refine @And.intro (¬ (_ = _)) _ ?_ ?_); (· first | assumption | (with_reducible assumption)); (conv => whnf))
    | (refine hX _ _ _ _ _ _ ?_; (conv => whnf); fail_if_success show False)
    | (rw [c_si]; (conv => whnf))
    | (refine ⟨_, rfl, ?_⟩; (conv => whnf))
    | (refine ⟨_, _, rfl, ?_⟩; (conv => whnf))
    | (refine ⟨_, _, _, rfl, ?_⟩; (conv => whnf))
    | (refine ⟨_, _, _, _, rfl, ?_⟩; (conv => whnf))
    | (rw [c_tl h5]; (conv => whnf))
    | (rw [c_t7 h5]; (conv => whnf))
    | (rw [c_tf h5 (by decide)]; (conv => whnf))
    | (rw [c_t0 h5]; (conv => whnf))
    | (rw [c_t1 h5]; (conv => whnf))
    | (rw [c_t2 h5]; (conv => whnf))
    | (rw [c_t3 h5]; (conv => whnf))
    | (rw [c_t4 h5]; (conv => whnf))
    | (rw [c_t5 h5]; (conv => whnf))
    | (refine And.intro ⟨_, c_tl h5⟩ ?_; (conv => whnf))
    | (refine And.intro (fun c => ?_) (fun c => ?_) <;> (first | (exact absurd c (by decide +kernel)) | (conv => whnf)))
    | fail)
  refine t_q hQ ?_
  have e1 : gfall (gGK (cG P I L)) p = I 35 p := cK_fall hp
  have e2 : glimp (gGK (cG P I L)) h = I 30 h := (cK_limp hh).trans (c_limp_M hg.2.2.2.2.1 (by omega))
  have e3 : gs (gnow (cG P I L)) p = I 53 p := cA_gs (by omega)
  unfold g_lies
  rw [e1, e2, e3]
  clear hX hG hQ
  simp (disch := omega) only [xl_n, xl_m, nI_dec, nI_sb, xl_0, xl_1, cW_i, Nat.add_zero, Nat.reduceAdd, Nat.reduceMul, t_bn0, t_bn1, Classical.not_not, t_lt, nI_add, nI_1, pk_mul, nI_clamp, c_si, nI_eq, nI_leI, nM_ne, nM_ne] at *
  rfl
theorem ct_X1_liesBy : xm_Ct cI yX1_liesBy (ws_ yX1_liesBy cX1_liesBy 3 (some .int)) 1 0 0 S_X1_liesBy := xm_enter (rt := 0) (init := false) (by decide +kernel) rfl (fun h => by cases h) (Or.inl ⟨rfl, rfl⟩) (oX1_liesBy) body_X1_liesBy
theorem cv_X1_liesBy {own : String} {cc : ByteArray} {fr pc idx : Nat} (hdg : decode cc pc = .ok (.invokevirtual idx, 3)) (hl : xm_ml own idx yX1_liesBy) (hfr : 1 < fr) : xm_CallOK cI own cc fr pc (pc + 3) 3 0 0 (xm_this 0 S_X1_liesBy) := xm_callV 0 cI_good (ct_X1_liesBy) hdg hl q1764 qs41 q116 q1765 rfl rfl (by decide +kernel) hfr (by decide)
abbrev bX1_lies_0 : List xE := [(.aload_n 0, 1, 0, 0, 0), (.iload_n 1, 2, 0, 0, 0), (.invokevirtual 238, 5, 0, 0, 9), (.aload_n 0, 6, 0, 0, 0), (.iload_n 2, 7, 0, 0, 0), (.invokevirtual 217, 10, 0, 1, 9), (.aload_n 0, 11, 0, 0, 0), (.iload_n 1, 12, 0, 0, 0), (.iload_n 2, 13, 0, 0, 0), (.invokevirtual 356, 16, 0, 2, 9), (.ireturn, 17, 0, 0, 0)]
abbrev kX1_lies : List (Nat × List xE) := [(0, bX1_lies_0)]
abbrev lX1_lies : List (Nat × Nat × Nat × xS) := [(2, 1, 6, xm_this 0 S_X1_needPuppet), (2, 1, 6, xm_this 0 S_X1_needHand), (3, 0, 0, xm_this 0 S_X1_liesBy)]
theorem oX1_lies_0  : xm_okb cI RX1 cX1_lies false 8 lX1_lies bX1_lies_0 0 := xo_0 dX1_lies_0 rfl trivial (xo_0 dX1_lies_1 rfl trivial (xo_c rfl (cv_X1_needPuppet dX1_lies_2 (Or.inl q1607) (by decide)) (xo_0 dX1_lies_5 rfl trivial (xo_0 dX1_lies_6 rfl trivial (xo_c rfl (cv_X1_needHand dX1_lies_7 (Or.inl q1576) (by decide)) (xo_0 dX1_lies_10 rfl trivial (xo_0 dX1_lies_11 rfl trivial (xo_0 dX1_lies_12 rfl trivial (xo_c rfl (cv_X1_liesBy dX1_lies_13 (Or.inl q1762) (by decide)) (xo_0 dX1_lies_16 rfl trivial (xo_n)))))))))))
theorem oX1_lies  : ∀ q ∈ kX1_lies, xm_okb cI RX1 cX1_lies false 8 lX1_lies q.2 q.1 := by
  intro q hq
  simp only [List.mem_cons, List.not_mem_nil, or_false] at hq
  subst hq
  exact oX1_lies_0  
def S_X1_lies : xS := cU fun as P Z I Q QX => ∃ a b L, as = [.ref 0, .int a, .int b] ∧ c_good P Z I L ∧ c_P P Z L (cG P I L) Q QX (q_lies (cG P I L) a b)
theorem body_X1_lies : xm_Body 3 0 2 12 [] lX1_lies kX1_lies S_X1_lies := by
  intro X avs w Q QX hX0 hS
  have hG := xm_go [] hX0
  have hX := xm_go [] hX0
  clear hX0
  obtain ⟨P, Z, I, rfl, a, b, L, rfl, hg, hQ⟩ := hS
  have hok := hg.ok
  obtain ⟨hn, h9, hm, h8⟩ := id hok
  refine ⟨rfl, ?_⟩
  repeat' (first
    | ((with_reducible refine @And.intro (vp_in _ _) _ ?_ ?_); (· (first | with_reducible assumption | ((with_reducible refine t_vin ?_); decide) | ((with_reducible refine vp_in_nI ?_ ?_) <;> first | omega | decide) | (simp (disch := omega) only [xl_n, xl_m, nI_dec, nI_sb, nI_add, pk_mul]; (with_reducible refine vp_in_nI ?_ ?_) <;> first | omega | decide))); (conv => whnf))
    | (refine And.intro (by first | with_reducible assumption | exact (show cL _ _ = _ from rfl) | decide) ?_; (conv => whnf))
    | ((with_reducible refine @And.intro (_ = _) _ ?_ ?_); (· rfl); (conv => whnf))
    | ((with_reducible refine @And.intro (@LE.le Nat _ _ _) _ ?_ ?_); (· (first | exact Nat.zero_le _ | exact Nat.le_of_ble_eq_true rfl | omega)); (conv => whnf))
    | ((with_reducible refine @And.intro (@LT.lt Nat _ _ _) _ ?_ ?_); (· omega); (conv => whnf))
    | ((with_reducible refine @And.intro (∃ _, _ = _) _ ?_ ?_); (· exact ⟨_, rfl⟩); (conv => whnf))
    | ((with_reducible refine @And.intro (_ ∨ _) _ ?_ ?_); (· (first | exact Or.inl rfl | exact Or.inr rfl | exact t_b01 _ | assumption)); (conv => whnf))
    | ((with_reducible refine @And.intro (¬ (_ = _)) _ ?_ ?_); (· first | assumption | (with_reducible assumption)); (conv => whnf))
    | (refine hX _ _ _ _ _ _ ?_; (conv => whnf); fail_if_success show False)
    | (rw [c_si]; (conv => whnf))
    | (refine ⟨_, rfl, ?_⟩; (conv => whnf))
    | (refine ⟨_, _, rfl, ?_⟩; (conv => whnf))
    | (refine ⟨_, _, _, rfl, ?_⟩; (conv => whnf))
    | (refine ⟨_, _, _, _, rfl, ?_⟩; (conv => whnf))
    | (refine ⟨a,rfl,hok,?_⟩; (conv => whnf))
    | fail)
  refine ⟨fun e => ?_, fun e x hx => ?_⟩
  · obtain ⟨p, hp, rfl⟩ := t_in_of (by omega) e
    have f : g_isP (cG P I L) (nI p) = true := e
    (conv => whnf)
    repeat' (first
      | ((with_reducible refine @And.intro (vp_in _ _) _ ?_ ?_); (· (first | with_reducible assumption | ((with_reducible refine t_vin ?_); decide) | ((with_reducible refine vp_in_nI ?_ ?_) <;> first | omega | decide) | (simp (disch := omega) only [xl_n, xl_m, nI_dec, nI_sb, nI_add, pk_mul]; (with_reducible refine vp_in_nI ?_ ?_) <;> first | omega | decide))); (conv => whnf))
      | (refine And.intro (by first | with_reducible assumption | exact (show cL _ _ = _ from rfl) | decide) ?_; (conv => whnf))
      | ((with_reducible refine @And.intro (_ = _) _ ?_ ?_); (· rfl); (conv => whnf))
      | ((with_reducible refine @And.intro (@LE.le Nat _ _ _) _ ?_ ?_); (· (first | exact Nat.zero_le _ | exact Nat.le_of_ble_eq_true rfl | omega)); (conv => whnf))
      | ((with_reducible refine @And.intro (@LT.lt Nat _ _ _) _ ?_ ?_); (· omega); (conv => whnf))
      | ((with_reducible refine @And.intro (∃ _, _ = _) _ ?_ ?_); (· exact ⟨_, rfl⟩); (conv => whnf))
      | ((with_reducible refine @And.intro (_ ∨ _) _ ?_ ?_); (· (first | exact Or.inl rfl | exact Or.inr rfl | exact t_b01 _ | assumption)); (conv => whnf))
      | ((with_reducible refine @And.intro (¬ (_ = _)) _ ?_ ?_); (· first | assumption | (with_reducible assumption)); (conv => whnf))
      | (refine hX _ _ _ _ _ _ ?_; (conv => whnf); fail_if_success show False)
      | (rw [c_si]; (conv => whnf))
      | (refine ⟨_, rfl, ?_⟩; (conv => whnf))
      | (refine ⟨_, _, rfl, ?_⟩; (conv => whnf))
      | (refine ⟨_, _, _, rfl, ?_⟩; (conv => whnf))
      | (refine ⟨_, _, _, _, rfl, ?_⟩; (conv => whnf))
      | (refine ⟨b,rfl,hok,?_⟩; (conv => whnf))
      | fail)
    refine ⟨fun e2 => ?_, fun e2 x hx => ?_⟩
    · obtain ⟨h, hh, rfl⟩ := t_in_of (by omega) e2
      have f2 : g_isH (cG P I L) (nI h) = true := e2
      rw [q_lies, f, f2, Bool.and_self, g_ck_t, nI_clamp (by omega), nI_clamp (by omega)] at hQ
      (conv => whnf)
      repeat' (first
        | ((with_reducible refine @And.intro (vp_in _ _) _ ?_ ?_); (· (first | with_reducible assumption | ((with_reducible refine t_vin ?_); decide) | ((with_reducible refine vp_in_nI ?_ ?_) <;> first | omega | decide) | (simp (disch := omega) only [xl_n, xl_m, nI_dec, nI_sb, nI_add, pk_mul]; (with_reducible refine vp_in_nI ?_ ?_) <;> first | omega | decide))); (conv => whnf))
        | (refine And.intro (by first | with_reducible assumption | exact (show cL _ _ = _ from rfl) | decide) ?_; (conv => whnf))
        | ((with_reducible refine @And.intro (_ = _) _ ?_ ?_); (· rfl); (conv => whnf))
        | ((with_reducible refine @And.intro (@LE.le Nat _ _ _) _ ?_ ?_); (· (first | exact Nat.zero_le _ | exact Nat.le_of_ble_eq_true rfl | omega)); (conv => whnf))
        | ((with_reducible refine @And.intro (@LT.lt Nat _ _ _) _ ?_ ?_); (· omega); (conv => whnf))
        | ((with_reducible refine @And.intro (∃ _, _ = _) _ ?_ ?_); (· exact ⟨_, rfl⟩); (conv => whnf))
        | ((with_reducible refine @And.intro (_ ∨ _) _ ?_ ?_); (· (first | exact Or.inl rfl | exact Or.inr rfl | exact t_b01 _ | assumption)); (conv => whnf))
        | ((with_reducible refine @And.intro (¬ (_ = _)) _ ?_ ?_); (· first | assumption | (with_reducible assumption)); (conv => whnf))
        | (refine hX _ _ _ _ _ _ ?_; (conv => whnf); fail_if_success show False)
        | (rw [c_si]; (conv => whnf))
        | (refine ⟨_, rfl, ?_⟩; (conv => whnf))
        | (refine ⟨_, _, rfl, ?_⟩; (conv => whnf))
        | (refine ⟨_, _, _, rfl, ?_⟩; (conv => whnf))
        | (refine ⟨_, _, _, _, rfl, ?_⟩; (conv => whnf))
        | (refine ⟨p,h,L,rfl,hg,hp,hh,?_⟩; (conv => whnf))
        | (refine And.intro (fun c => ?_) (fun c => ?_) <;> (first | (exact absurd c (by decide +kernel)) | (conv => whnf)))
        | fail)
      exact c_ask hQ hg c_sp.rf rfl
    · exact c_ref0 hQ hg (by rw [f]; exact e2) hx n1_0
  · exact c_ref0 hQ hg (by rw [show g_isP (cG P I L) a = false from e]; rfl) hx n1_0
theorem ct_X1_lies : xm_Ct cI yX1_lies (ws_ yX1_lies cX1_lies 3 (some .int)) 8 2 12 S_X1_lies := xm_enter (rt := 0) (init := false) (by decide +kernel) rfl (fun h => by cases h) (Or.inl ⟨rfl, rfl⟩) (oX1_lies) body_X1_lies
theorem cv_X1_lies {own : String} {cc : ByteArray} {fr pc idx : Nat} (hdg : decode cc pc = .ok (.invokevirtual idx, 3)) (hl : xm_ml own idx yX1_lies) (hfr : 8 < fr) : xm_CallOK cI own cc fr pc (pc + 3) 3 2 12 (xm_this 0 S_X1_lies) := xm_callV 0 cI_good (ct_X1_lies) hdg hl q1759 q1760 q116 q1761 rfl rfl (by decide +kernel) hfr (by decide)
abbrev bX1_orphans_0 : List xE := [(.iconst 0, 1, 0, 0, 0), (.istore_n 1, 2, 0, 0, 0), (.iconst 0, 3, 0, 0, 0), (.istore_n 2, 4, 0, 0, 0)]
abbrev bX1_orphans_4 : List xE := [(.iload_n 2, 5, 0, 0, 0), (.aload_n 0, 6, 0, 0, 0), (.getfield 31, 9, 0, 0, 1), (.getfield 133, 12, 1, 12, 0), (.if_icmp .ge 30, 15, 0, 42, 0), (.iload_n 1, 16, 0, 0, 0), (.aload_n 0, 17, 0, 0, 0), (.getfield 58, 20, 0, 5, 1), (.iload_n 2, 21, 0, 0, 0), (.invokevirtual 250, 24, 0, 0, 9), (.ifCond .le 9, 27, 0, 33, 0), (.iconst 1, 28, 0, 0, 0), (.iload_n 2, 29, 0, 0, 0), (.ishl, 30, 0, 0, 0), (.goto 4, 33, 0, 34, 0)]
abbrev bX1_orphans_33 : List xE := [(.iconst 0, 34, 0, 0, 0)]
abbrev bX1_orphans_34 : List xE := [(.ior, 35, 0, 0, 0), (.istore_n 1, 36, 0, 0, 0), (.iinc 2 1, 39, 0, 0, 0), (.goto (-35), 42, 0, 4, 0)]
abbrev bX1_orphans_42 : List xE := [(.iload_n 1, 43, 0, 0, 0), (.ireturn, 44, 0, 0, 0)]
abbrev kX1_orphans : List (Nat × List xE) := [(0, bX1_orphans_0), (4, bX1_orphans_4), (33, bX1_orphans_33), (34, bX1_orphans_34), (42, bX1_orphans_42)]
abbrev lX1_orphans : List (Nat × Nat × Nat × xS) := [(2, 0, 0, xm_this 7 S_X10_lacks)]
theorem oX1_orphans_0  : xm_okb cI RX1 cX1_orphans false 3 lX1_orphans bX1_orphans_0 0 := xo_0 dX1_orphans_0 rfl trivial (xo_0 dX1_orphans_1 rfl trivial (xo_0 dX1_orphans_2 rfl trivial (xo_0 dX1_orphans_3 rfl trivial (xo_n))))
theorem oX1_orphans_4  : xm_okb cI RX1 cX1_orphans false 3 lX1_orphans bX1_orphans_4 4 := xo_0 dX1_orphans_4 rfl trivial (xo_0 dX1_orphans_5 rfl trivial (xo_1 dX1_orphans_6 rfl (xm_fg_of (Or.inl q716) (by decide) rfl (by decide) rfl rfl (Or.inl rfl) rfl) (xo_0 dX1_orphans_9 rfl (xm_fg_of (Or.inr ⟨_, q560⟩) (by decide) rfl (by decide) rfl rfl (Or.inl rfl) rfl) (xo_0 dX1_orphans_12 rfl rfl (xo_0 dX1_orphans_15 rfl trivial (xo_0 dX1_orphans_16 rfl trivial (xo_1 dX1_orphans_17 rfl (xm_fg_of (Or.inl q724) (by decide) rfl (by decide) rfl rfl (Or.inl rfl) rfl) (xo_0 dX1_orphans_20 rfl trivial (xo_c rfl (cv_X10_lacks dX1_orphans_21 (Or.inl q991) (by decide)) (xo_0 dX1_orphans_24 rfl rfl (xo_0 dX1_orphans_27 rfl trivial (xo_0 dX1_orphans_28 rfl trivial (xo_0 dX1_orphans_29 rfl trivial (xo_0 dX1_orphans_30 rfl rfl (xo_n)))))))))))))))
theorem oX1_orphans_33  : xm_okb cI RX1 cX1_orphans false 3 lX1_orphans bX1_orphans_33 33 := xo_0 dX1_orphans_33 rfl trivial (xo_n)
theorem oX1_orphans_34  : xm_okb cI RX1 cX1_orphans false 3 lX1_orphans bX1_orphans_34 34 := xo_0 dX1_orphans_34 rfl trivial (xo_0 dX1_orphans_35 rfl trivial (xo_0 dX1_orphans_36 rfl trivial (xo_0 dX1_orphans_39 rfl rfl (xo_n))))
theorem oX1_orphans_42  : xm_okb cI RX1 cX1_orphans false 3 lX1_orphans bX1_orphans_42 42 := xo_0 dX1_orphans_42 rfl trivial (xo_0 dX1_orphans_43 rfl trivial (xo_n))
theorem oX1_orphans  : ∀ q ∈ kX1_orphans, xm_okb cI RX1 cX1_orphans false 3 lX1_orphans q.2 q.1 := by
  intro q hq
  simp only [List.mem_cons, List.not_mem_nil, or_false] at hq
  rcases hq with rfl | rfl | rfl | rfl | rfl
  · exact oX1_orphans_0  
  · exact oX1_orphans_4  
  · exact oX1_orphans_33  
  · exact oX1_orphans_34  
  · exact oX1_orphans_42  
def S_X1_orphans : xS := cU fun as P Z I Q QX => ∃ L, as = [.ref 0] ∧ c_good P Z I L ∧ c_P P Z L (cG P I L) Q QX (q_orphans (cG P I L))
theorem body_X1_orphans : xm_Body 3 0 0 0 [] lX1_orphans kX1_orphans S_X1_orphans := by
  intro X avs w Q QX hX0 hS
  have hG := xm_go [] hX0
  have hX := xm_go [4] hX0
  clear hX0
  obtain ⟨P, Z, I, rfl, L, rfl, hg, hQ⟩ := hS
  have hok := hg.ok
  obtain ⟨hn, h9, hm, h8⟩ := id hok
  have h5 := c_5 (P := P)
  have ht := hg.now
  have loop : ∀ k, k ≤ c_p I → X 4 [some (.ref 0), some (.int (t_or k fun p => !decide (g_lack (cK I L) (cA I 5) p ≤ nI 0))), some (.int (nI k))] [] (cW P Z I) 0 0 := by
    refine t_for fun k h1 ih => ?_
    refine hG _ _ _ _ _ _ ?_
    (conv => whnf)
    repeat' (first
      | ((with_reducible refine @And.intro (vp_in _ _) _ ?_ ?_); (· (first | with_reducible assumption | ((with_reducible refine t_vin ?_); decide) | ((with_reducible refine vp_in_nI ?_ ?_) <;> first | omega | decide) | (simp (disch := omega) only [xl_n, xl_m, nI_dec, nI_sb, nI_add, pk_mul]; (with_reducible refine vp_in_nI ?_ ?_) <;> first | omega | decide))); (conv => whnf))
      | (refine And.intro (by first | with_reducible assumption | exact (show cL _ _ = _ from rfl) | decide) ?_; (conv => whnf))
      | ((with_reducible refine @And.intro (_ = _) _ ?_ ?_); (· rfl); (conv => whnf))
      | ((with_reducible refine @And.intro (@LE.le Nat _ _ _) _ ?_ ?_); (· (first | exact Nat.zero_le _ | exact Nat.le_of_ble_eq_true rfl | omega)); (conv => whnf))
      | ((with_reducible refine @And.intro (@LT.lt Nat _ _ _) _ ?_ ?_); (· omega); (conv => whnf))
      | ((with_reducible refine @And.intro (∃ _, _ = _) _ ?_ ?_); (· exact ⟨_, rfl⟩); (conv => whnf))
      | ((with_reducible refine @And.intro (_ ∨ _) _ ?_ ?_); (· (first | exact Or.inl rfl | exact Or.inr rfl | exact t_b01 _ | assumption)); (conv => whnf))
      | ((with_reducible refine @And.intro (¬ (_ = _)) _ ?_ ?_); (· first | assumption | (with_reducible assumption)); (conv => whnf))
      | (refine hX _ _ _ _ _ _ ?_; (conv => whnf); fail_if_success show False)
      | (rw [c_si]; (conv => whnf))
      | (refine ⟨_, rfl, ?_⟩; (conv => whnf))
      | (refine ⟨_, _, rfl, ?_⟩; (conv => whnf))
      | (refine ⟨_, _, _, rfl, ?_⟩; (conv => whnf))
      | (refine ⟨_, _, _, _, rfl, ?_⟩; (conv => whnf))
      | fail)
    refine And.intro (fun c => ?_) (fun c => ?_) <;> (conv => whnf)
    · repeat' (first
        | ((with_reducible refine @And.intro (vp_in _ _) _ ?_ ?_); (· (first | with_reducible assumption | ((with_reducible refine t_vin ?_); decide) | ((with_reducible refine vp_in_nI ?_ ?_) <;> first | omega | decide) | (simp (disch := omega) only [xl_n, xl_m, nI_dec, nI_sb, nI_add, pk_mul]; (with_reducible refine vp_in_nI ?_ ?_) <;> first | omega | decide))); (conv => whnf))
        | (refine And.intro (by first | with_reducible assumption | exact (show cL _ _ = _ from rfl) | decide) ?_; (conv => whnf))
        | ((with_reducible refine @And.intro (_ = _) _ ?_ ?_); (· rfl); (conv => whnf))
        | ((with_reducible refine @And.intro (@LE.le Nat _ _ _) _ ?_ ?_); (· (first | exact Nat.zero_le _ | exact Nat.le_of_ble_eq_true rfl | omega)); (conv => whnf))
        | ((with_reducible refine @And.intro (@LT.lt Nat _ _ _) _ ?_ ?_); (· omega); (conv => whnf))
        | ((with_reducible refine @And.intro (∃ _, _ = _) _ ?_ ?_); (· exact ⟨_, rfl⟩); (conv => whnf))
        | ((with_reducible refine @And.intro (_ ∨ _) _ ?_ ?_); (· (first | exact Or.inl rfl | exact Or.inr rfl | exact t_b01 _ | assumption)); (conv => whnf))
        | ((with_reducible refine @And.intro (¬ (_ = _)) _ ?_ ?_); (· first | assumption | (with_reducible assumption)); (conv => whnf))
        | (refine hX _ _ _ _ _ _ ?_; (conv => whnf); fail_if_success show False)
        | (rw [c_si]; (conv => whnf))
        | (refine ⟨_, rfl, ?_⟩; (conv => whnf))
        | (refine ⟨_, _, rfl, ?_⟩; (conv => whnf))
        | (refine ⟨_, _, _, rfl, ?_⟩; (conv => whnf))
        | (refine ⟨_, _, _, _, rfl, ?_⟩; (conv => whnf))
        | fail)
      have : k = c_p I := Nat.le_antisymm h1 (t_kge hm c (by omega) (by omega))
      subst this
      exact c_ask hQ hg c_sp.rf rfl
    · have hk : k < c_p I := t_klt hm c (by omega)
      have hk8 : k < 8 := by omega
      have hm9 : t_m9 (I (10 * 5 + 1) k) := by
        have := (ht.2.2.2.1 k).1
        rw [cA_gw (by omega)] at this
        exact this
      have eg : t_more (nI 0) (I 36 k - t_ones (I (10 * 5 + 1) k)) = g_lack (cK I L) (cA I 5) k := by
        unfold g_lack
        rw [cA_gw (by omega), cK_needs hk]
      have := ih (k + 1) (by omega) (by omega)
      clear ih
      repeat' (first
        | ((with_reducible refine @And.intro (vp_in _ _) _ ?_ ?_); (· (first | with_reducible assumption | ((with_reducible refine t_vin ?_); decide) | ((with_reducible refine vp_in_nI ?_ ?_) <;> first | omega | decide) | (simp (disch := omega) only [xl_n, xl_m, nI_dec, nI_sb, nI_add, pk_mul]; (with_reducible refine vp_in_nI ?_ ?_) <;> first | omega | decide))); (conv => whnf))
        | (refine And.intro (by first | with_reducible assumption | exact (show cL _ _ = _ from rfl) | decide) ?_; (conv => whnf))
        | ((with_reducible refine @And.intro (_ = _) _ ?_ ?_); (· rfl); (conv => whnf))
        | ((with_reducible refine @And.intro (@LE.le Nat _ _ _) _ ?_ ?_); (· (first | exact Nat.zero_le _ | exact Nat.le_of_ble_eq_true rfl | omega)); (conv => whnf))
        | ((with_reducible refine @And.intro (@LT.lt Nat _ _ _) _ ?_ ?_); (· omega); (conv => whnf))
        | ((with_reducible refine @And.intro (∃ _, _ = _) _ ?_ ?_); (· exact ⟨_, rfl⟩); (conv => whnf))
        | ((with_reducible refine @And.intro (_ ∨ _) _ ?_ ?_); (· (first | exact Or.inl rfl | exact Or.inr rfl | exact t_b01 _ | assumption)); (conv => whnf))
        | ((with_reducible refine @And.intro (¬ (_ = _)) _ ?_ ?_); (· first | assumption | (with_reducible assumption)); (conv => whnf))
        | (refine hX _ _ _ _ _ _ ?_; (conv => whnf); fail_if_success show False)
        | (rw [c_si]; (conv => whnf))
        | (refine ⟨_, rfl, ?_⟩; (conv => whnf))
        | (refine ⟨_, _, rfl, ?_⟩; (conv => whnf))
        | (refine ⟨_, _, _, rfl, ?_⟩; (conv => whnf))
        | (refine ⟨_, _, _, _, rfl, ?_⟩; (conv => whnf))
        | (refine ⟨5,k,rfl,h5,hk8,hm9,?_⟩; (conv => whnf))
        | (rw [eg]; (conv => whnf))
        | (rw [c_tl h5]; (conv => whnf))
        | (rw [c_t7 h5]; (conv => whnf))
        | (rw [c_tf h5 (by decide)]; (conv => whnf))
        | (rw [c_t0 h5]; (conv => whnf))
        | (rw [c_t1 h5]; (conv => whnf))
        | (rw [c_t2 h5]; (conv => whnf))
        | (rw [c_t3 h5]; (conv => whnf))
        | (rw [c_t4 h5]; (conv => whnf))
        | (rw [c_t5 h5]; (conv => whnf))
        | (refine And.intro ⟨_, c_tl h5⟩ ?_; (conv => whnf))
        | (refine And.intro (fun c => ?_) (fun c => ?_) <;> (first | (exact absurd c (by decide +kernel)) | (conv => whnf)))
        | fail)
      all_goals clear hX hG hQ
      all_goals simp (disch := omega) only [xl_n, xl_m, nI_dec, nI_sb, xl_0, xl_1, cW_i, Nat.add_zero, Nat.reduceAdd, Nat.reduceMul, t_bn0, t_bn1, Classical.not_not, t_lt, nI_add, nI_1, pk_mul, nI_clamp, c_si, nI_eq, nI_leI, nM_ne, nM_ne, xm_set, xm_lv0, xm_psh] at *
      all_goals simpa [t_or_s, t_bit, c] using this
  refine ⟨rfl, ?_⟩
  repeat' (first
    | ((with_reducible refine @And.intro (vp_in _ _) _ ?_ ?_); (· (first | with_reducible assumption | ((with_reducible refine t_vin ?_); decide) | ((with_reducible refine vp_in_nI ?_ ?_) <;> first | omega | decide) | (simp (disch := omega) only [xl_n, xl_m, nI_dec, nI_sb, nI_add, pk_mul]; (with_reducible refine vp_in_nI ?_ ?_) <;> first | omega | decide))); (conv => whnf))
    | (refine And.intro (by first | with_reducible assumption | exact (show cL _ _ = _ from rfl) | decide) ?_; (conv => whnf))
    | ((with_reducible refine @And.intro (_ = _) _ ?_ ?_); (· rfl); (conv => whnf))
    | ((with_reducible refine @And.intro (@LE.le Nat _ _ _) _ ?_ ?_); (· (first | exact Nat.zero_le _ | exact Nat.le_of_ble_eq_true rfl | omega)); (conv => whnf))
    | ((with_reducible refine @And.intro (@LT.lt Nat _ _ _) _ ?_ ?_); (· omega); (conv => whnf))
    | ((with_reducible refine @And.intro (∃ _, _ = _) _ ?_ ?_); (· exact ⟨_, rfl⟩); (conv => whnf))
    | ((with_reducible refine @And.intro (_ ∨ _) _ ?_ ?_); (· (first | exact Or.inl rfl | exact Or.inr rfl | exact t_b01 _ | assumption)); (conv => whnf))
    | ((with_reducible refine @And.intro (¬ (_ = _)) _ ?_ ?_); (· first | assumption | (with_reducible assumption)); (conv => whnf))
    | (refine hX _ _ _ _ _ _ ?_; (conv => whnf); fail_if_success show False)
    | (rw [c_si]; (conv => whnf))
    | (refine ⟨_, rfl, ?_⟩; (conv => whnf))
    | (refine ⟨_, _, rfl, ?_⟩; (conv => whnf))
    | (refine ⟨_, _, _, rfl, ?_⟩; (conv => whnf))
    | (refine ⟨_, _, _, _, rfl, ?_⟩; (conv => whnf))
    | (refine And.intro (fun c => ?_) (fun c => ?_) <;> (first | (exact absurd c (by decide +kernel)) | (conv => whnf)))
    | fail)
  exact loop 0 (Nat.zero_le _)
theorem ct_X1_orphans : xm_Ct cI yX1_orphans (ws_ yX1_orphans cX1_orphans 3 (some .int)) 3 0 0 S_X1_orphans := xm_enter (rt := 0) (init := false) (by decide +kernel) rfl (fun h => by cases h) (Or.inl ⟨rfl, rfl⟩) (oX1_orphans) body_X1_orphans
theorem cv_X1_orphans {own : String} {cc : ByteArray} {fr pc idx : Nat} (hdg : decode cc pc = .ok (.invokevirtual idx, 3)) (hl : xm_ml own idx yX1_orphans) (hfr : 3 < fr) : xm_CallOK cI own cc fr pc (pc + 3) 1 0 0 (xm_this 0 S_X1_orphans) := xm_callV 0 cI_good (ct_X1_orphans) hdg hl q988 q989 q116 q990 rfl rfl (by decide +kernel) hfr (by decide)
abbrev bX1_idle_0 : List xE := [(.iconst 0, 1, 0, 0, 0), (.istore_n 1, 2, 0, 0, 0), (.iconst 0, 3, 0, 0, 0), (.istore_n 2, 4, 0, 0, 0)]
abbrev bX1_idle_4 : List xE := [(.iload_n 2, 5, 0, 0, 0), (.aload_n 0, 6, 0, 0, 0), (.getfield 31, 9, 0, 0, 1), (.getfield 126, 12, 1, 11, 0), (.if_icmp .ge 43, 15, 0, 55, 0), (.iload_n 1, 16, 0, 0, 0), (.aload_n 0, 17, 0, 0, 0), (.getfield 58, 20, 0, 5, 1), (.getfield 226, 23, 7, 0, 1), (.iload_n 2, 24, 0, 0, 0), (.iaload, 25, 0, 0, 0), (.iconst 1, 26, 0, 0, 0), (.if_icmp .ne 20, 29, 0, 46, 0), (.aload_n 0, 30, 0, 0, 0), (.getfield 58, 33, 0, 5, 1), (.iload_n 2, 34, 0, 0, 0), (.invokevirtual 229, 37, 0, 0, 9), (.ifCond .ne 9, 40, 0, 46, 0), (.iconst 1, 41, 0, 0, 0), (.iload_n 2, 42, 0, 0, 0), (.ishl, 43, 0, 0, 0), (.goto 4, 46, 0, 47, 0)]
abbrev bX1_idle_46 : List xE := [(.iconst 0, 47, 0, 0, 0)]
abbrev bX1_idle_47 : List xE := [(.ior, 48, 0, 0, 0), (.istore_n 1, 49, 0, 0, 0), (.iinc 2 1, 52, 0, 0, 0), (.goto (-48), 55, 0, 4, 0)]
abbrev bX1_idle_55 : List xE := [(.iload_n 1, 56, 0, 0, 0), (.ireturn, 57, 0, 0, 0)]
abbrev kX1_idle : List (Nat × List xE) := [(0, bX1_idle_0), (4, bX1_idle_4), (46, bX1_idle_46), (47, bX1_idle_47), (55, bX1_idle_55)]
abbrev lX1_idle : List (Nat × Nat × Nat × xS) := [(2, 0, 0, xm_this 7 S_X10_workedBy)]
theorem oX1_idle_0  : xm_okb cI RX1 cX1_idle false 3 lX1_idle bX1_idle_0 0 := xo_0 dX1_idle_0 rfl trivial (xo_0 dX1_idle_1 rfl trivial (xo_0 dX1_idle_2 rfl trivial (xo_0 dX1_idle_3 rfl trivial (xo_n))))
theorem oX1_idle_4  : xm_okb cI RX1 cX1_idle false 3 lX1_idle bX1_idle_4 4 := xo_0 dX1_idle_4 rfl trivial (xo_0 dX1_idle_5 rfl trivial (xo_1 dX1_idle_6 rfl (xm_fg_of (Or.inl q716) (by decide) rfl (by decide) rfl rfl (Or.inl rfl) rfl) (xo_0 dX1_idle_9 rfl (xm_fg_of (Or.inr ⟨_, q556⟩) (by decide) rfl (by decide) rfl rfl (Or.inl rfl) rfl) (xo_0 dX1_idle_12 rfl rfl (xo_0 dX1_idle_15 rfl trivial (xo_0 dX1_idle_16 rfl trivial (xo_1 dX1_idle_17 rfl (xm_fg_of (Or.inl q724) (by decide) rfl (by decide) rfl rfl (Or.inl rfl) rfl) (xo_1 dX1_idle_20 rfl (xm_fg_of (Or.inr ⟨_, q663⟩) (by decide) rfl (by decide) rfl rfl (Or.inl rfl) rfl) (xo_0 dX1_idle_23 rfl trivial (xo_0 dX1_idle_24 rfl trivial (xo_0 dX1_idle_25 rfl trivial (xo_0 dX1_idle_26 rfl rfl (xo_0 dX1_idle_29 rfl trivial (xo_1 dX1_idle_30 rfl (xm_fg_of (Or.inl q724) (by decide) rfl (by decide) rfl rfl (Or.inl rfl) rfl) (xo_0 dX1_idle_33 rfl trivial (xo_c rfl (cv_X10_workedBy dX1_idle_34 (Or.inl q996) (by decide)) (xo_0 dX1_idle_37 rfl rfl (xo_0 dX1_idle_40 rfl trivial (xo_0 dX1_idle_41 rfl trivial (xo_0 dX1_idle_42 rfl trivial (xo_0 dX1_idle_43 rfl rfl (xo_n))))))))))))))))))))))
theorem oX1_idle_46  : xm_okb cI RX1 cX1_idle false 3 lX1_idle bX1_idle_46 46 := xo_0 dX1_idle_46 rfl trivial (xo_n)
theorem oX1_idle_47  : xm_okb cI RX1 cX1_idle false 3 lX1_idle bX1_idle_47 47 := xo_0 dX1_idle_47 rfl trivial (xo_0 dX1_idle_48 rfl trivial (xo_0 dX1_idle_49 rfl trivial (xo_0 dX1_idle_52 rfl rfl (xo_n))))
theorem oX1_idle_55  : xm_okb cI RX1 cX1_idle false 3 lX1_idle bX1_idle_55 55 := xo_0 dX1_idle_55 rfl trivial (xo_0 dX1_idle_56 rfl trivial (xo_n))
theorem oX1_idle  : ∀ q ∈ kX1_idle, xm_okb cI RX1 cX1_idle false 3 lX1_idle q.2 q.1 := by
  intro q hq
  simp only [List.mem_cons, List.not_mem_nil, or_false] at hq
  rcases hq with rfl | rfl | rfl | rfl | rfl
  · exact oX1_idle_0  
  · exact oX1_idle_4  
  · exact oX1_idle_46  
  · exact oX1_idle_47  
  · exact oX1_idle_55  
def S_X1_idle : xS := cU fun as P Z I Q QX => ∃ L, as = [.ref 0] ∧ c_good P Z I L ∧ c_P P Z L (cG P I L) Q QX (q_idle (cG P I L))
theorem body_X1_idle : xm_Body 3 0 0 0 [] lX1_idle kX1_idle S_X1_idle := by
  intro X avs w Q QX hX0 hS
  have hG := xm_go [] hX0
  have hX := xm_go [4] hX0
  clear hX0
  obtain ⟨P, Z, I, rfl, L, rfl, hg, hQ⟩ := hS
  have hok := hg.ok
  obtain ⟨hn, h9, hm, h8⟩ := id hok
  have h5 := c_5 (P := P)
  have ht := hg.now
  have loop : ∀ k, k ≤ c_h I → X 4 [some (.ref 0), some (.int (t_or k fun h => g_al (cK I L) (cA I 5) h && decide (g_work (cK I L) (cA I 5) h = nI 0))), some (.int (nI k))] [] (cW P Z I) 0 0 := by
    refine t_for fun k h1 ih => ?_
    refine hG _ _ _ _ _ _ ?_
    (conv => whnf)
    repeat' (first
      | ((with_reducible refine @And.intro (vp_in _ _) _ ?_ ?_); (· (first | with_reducible assumption | ((with_reducible refine t_vin ?_); decide) | ((with_reducible refine vp_in_nI ?_ ?_) <;> first | omega | decide) | (simp (disch := omega) only [xl_n, xl_m, nI_dec, nI_sb, nI_add, pk_mul]; (with_reducible refine vp_in_nI ?_ ?_) <;> first | omega | decide))); (conv => whnf))
      | (refine And.intro (by first | with_reducible assumption | exact (show cL _ _ = _ from rfl) | decide) ?_; (conv => whnf))
      | ((with_reducible refine @And.intro (_ = _) _ ?_ ?_); (· rfl); (conv => whnf))
      | ((with_reducible refine @And.intro (@LE.le Nat _ _ _) _ ?_ ?_); (· (first | exact Nat.zero_le _ | exact Nat.le_of_ble_eq_true rfl | omega)); (conv => whnf))
      | ((with_reducible refine @And.intro (@LT.lt Nat _ _ _) _ ?_ ?_); (· omega); (conv => whnf))
      | ((with_reducible refine @And.intro (∃ _, _ = _) _ ?_ ?_); (· exact ⟨_, rfl⟩); (conv => whnf))
      | ((with_reducible refine @And.intro (_ ∨ _) _ ?_ ?_); (· (first | exact Or.inl rfl | exact Or.inr rfl | exact t_b01 _ | assumption)); (conv => whnf))
      | ((with_reducible refine @And.intro (¬ (_ = _)) _ ?_ ?_); (· first | assumption | (with_reducible assumption)); (conv => whnf))
      | (refine hX _ _ _ _ _ _ ?_; (conv => whnf); fail_if_success show False)
      | (rw [c_si]; (conv => whnf))
      | (refine ⟨_, rfl, ?_⟩; (conv => whnf))
      | (refine ⟨_, _, rfl, ?_⟩; (conv => whnf))
      | (refine ⟨_, _, _, rfl, ?_⟩; (conv => whnf))
      | (refine ⟨_, _, _, _, rfl, ?_⟩; (conv => whnf))
      | fail)
    refine And.intro (fun c => ?_) (fun c => ?_) <;> (conv => whnf)
    · repeat' (first
        | ((with_reducible refine @And.intro (vp_in _ _) _ ?_ ?_); (· (first | with_reducible assumption | ((with_reducible refine t_vin ?_); decide) | ((with_reducible refine vp_in_nI ?_ ?_) <;> first | omega | decide) | (simp (disch := omega) only [xl_n, xl_m, nI_dec, nI_sb, nI_add, pk_mul]; (with_reducible refine vp_in_nI ?_ ?_) <;> first | omega | decide))); (conv => whnf))
        | (refine And.intro (by first | with_reducible assumption | exact (show cL _ _ = _ from rfl) | decide) ?_; (conv => whnf))
        | ((with_reducible refine @And.intro (_ = _) _ ?_ ?_); (· rfl); (conv => whnf))
        | ((with_reducible refine @And.intro (@LE.le Nat _ _ _) _ ?_ ?_); (· (first | exact Nat.zero_le _ | exact Nat.le_of_ble_eq_true rfl | omega)); (conv => whnf))
        | ((with_reducible refine @And.intro (@LT.lt Nat _ _ _) _ ?_ ?_); (· omega); (conv => whnf))
        | ((with_reducible refine @And.intro (∃ _, _ = _) _ ?_ ?_); (· exact ⟨_, rfl⟩); (conv => whnf))
        | ((with_reducible refine @And.intro (_ ∨ _) _ ?_ ?_); (· (first | exact Or.inl rfl | exact Or.inr rfl | exact t_b01 _ | assumption)); (conv => whnf))
        | ((with_reducible refine @And.intro (¬ (_ = _)) _ ?_ ?_); (· first | assumption | (with_reducible assumption)); (conv => whnf))
        | (refine hX _ _ _ _ _ _ ?_; (conv => whnf); fail_if_success show False)
        | (rw [c_si]; (conv => whnf))
        | (refine ⟨_, rfl, ?_⟩; (conv => whnf))
        | (refine ⟨_, _, rfl, ?_⟩; (conv => whnf))
        | (refine ⟨_, _, _, rfl, ?_⟩; (conv => whnf))
        | (refine ⟨_, _, _, _, rfl, ?_⟩; (conv => whnf))
        | fail)
      have : k = c_h I := Nat.le_antisymm h1 (t_kge hn c (by omega) (by omega))
      subst this
      exact c_ask hQ hg c_sp.rf rfl
    · have hk : k < c_h I := t_klt hn c (by omega)
      have hal := c_is_ald (L := L) ht.2.2.1 hk
      have ew : t_or (c_p I) (fun p => t_has (gw (cA I 5) p) k) = g_work (cK I L) (cA I 5) k := rfl
      have := ih (k + 1) (by omega) (by omega)
      clear ih
      rw [t_or_s, hal] at this
      repeat' (first
        | ((with_reducible refine @And.intro (vp_in _ _) _ ?_ ?_); (· (first | with_reducible assumption | ((with_reducible refine t_vin ?_); decide) | ((with_reducible refine vp_in_nI ?_ ?_) <;> first | omega | decide) | (simp (disch := omega) only [xl_n, xl_m, nI_dec, nI_sb, nI_add, pk_mul]; (with_reducible refine vp_in_nI ?_ ?_) <;> first | omega | decide))); (conv => whnf))
        | (refine And.intro (by first | with_reducible assumption | exact (show cL _ _ = _ from rfl) | decide) ?_; (conv => whnf))
        | ((with_reducible refine @And.intro (_ = _) _ ?_ ?_); (· rfl); (conv => whnf))
        | ((with_reducible refine @And.intro (@LE.le Nat _ _ _) _ ?_ ?_); (· (first | exact Nat.zero_le _ | exact Nat.le_of_ble_eq_true rfl | omega)); (conv => whnf))
        | ((with_reducible refine @And.intro (@LT.lt Nat _ _ _) _ ?_ ?_); (· omega); (conv => whnf))
        | ((with_reducible refine @And.intro (∃ _, _ = _) _ ?_ ?_); (· exact ⟨_, rfl⟩); (conv => whnf))
        | ((with_reducible refine @And.intro (_ ∨ _) _ ?_ ?_); (· (first | exact Or.inl rfl | exact Or.inr rfl | exact t_b01 _ | assumption)); (conv => whnf))
        | ((with_reducible refine @And.intro (¬ (_ = _)) _ ?_ ?_); (· first | assumption | (with_reducible assumption)); (conv => whnf))
        | (refine hX _ _ _ _ _ _ ?_; (conv => whnf); fail_if_success show False)
        | (rw [c_si]; (conv => whnf))
        | (refine ⟨_, rfl, ?_⟩; (conv => whnf))
        | (refine ⟨_, _, rfl, ?_⟩; (conv => whnf))
        | (refine ⟨_, _, _, rfl, ?_⟩; (conv => whnf))
        | (refine ⟨_, _, _, _, rfl, ?_⟩; (conv => whnf))
        | (refine ⟨5,k,rfl,h5,hok,?_⟩; (conv => whnf))
        | (rw [ew]; (conv => whnf))
        | (rw [c_tl h5]; (conv => whnf))
        | (rw [c_t7 h5]; (conv => whnf))
        | (rw [c_tf h5 (by decide)]; (conv => whnf))
        | (rw [c_t0 h5]; (conv => whnf))
        | (rw [c_t1 h5]; (conv => whnf))
        | (rw [c_t2 h5]; (conv => whnf))
        | (rw [c_t3 h5]; (conv => whnf))
        | (rw [c_t4 h5]; (conv => whnf))
        | (rw [c_t5 h5]; (conv => whnf))
        | (refine And.intro ⟨_, c_tl h5⟩ ?_; (conv => whnf))
        | (refine And.intro (fun c => ?_) (fun c => ?_) <;> (first | (exact absurd c (by decide +kernel)) | (conv => whnf)))
        | fail)
      all_goals clear hX hG hQ
      all_goals simp (disch := omega) only [xl_n, xl_m, nI_dec, nI_sb, xl_0, xl_1, cW_i, Nat.add_zero, Nat.reduceAdd, Nat.reduceMul, t_bn0, t_bn1, Classical.not_not, t_lt, nI_add, nI_1, pk_mul, nI_clamp, c_si, nI_eq, nI_leI, nM_ne, nM_ne, xm_set, xm_lv0, xm_psh] at *
      all_goals simpa [t_bit, *] using this
  refine ⟨rfl, ?_⟩
  repeat' (first
    | ((with_reducible refine @And.intro (vp_in _ _) _ ?_ ?_); (· (first | with_reducible assumption | ((with_reducible refine t_vin ?_); decide) | ((with_reducible refine vp_in_nI ?_ ?_) <;> first | omega | decide) | (simp (disch := omega) only [xl_n, xl_m, nI_dec, nI_sb, nI_add, pk_mul]; (with_reducible refine vp_in_nI ?_ ?_) <;> first | omega | decide))); (conv => whnf))
    | (refine And.intro (by first | with_reducible assumption | exact (show cL _ _ = _ from rfl) | decide) ?_; (conv => whnf))
    | ((with_reducible refine @And.intro (_ = _) _ ?_ ?_); (· rfl); (conv => whnf))
    | ((with_reducible refine @And.intro (@LE.le Nat _ _ _) _ ?_ ?_); (· (first | exact Nat.zero_le _ | exact Nat.le_of_ble_eq_true rfl | omega)); (conv => whnf))
    | ((with_reducible refine @And.intro (@LT.lt Nat _ _ _) _ ?_ ?_); (· omega); (conv => whnf))
    | ((with_reducible refine @And.intro (∃ _, _ = _) _ ?_ ?_); (· exact ⟨_, rfl⟩); (conv => whnf))
    | ((with_reducible refine @And.intro (_ ∨ _) _ ?_ ?_); (· (first | exact Or.inl rfl | exact Or.inr rfl | exact t_b01 _ | assumption)); (conv => whnf))
    | ((with_reducible refine @And.intro (¬ (_ = _)) _ ?_ ?_); (· first | assumption | (with_reducible assumption)); (conv => whnf))
    | (refine hX _ _ _ _ _ _ ?_; (conv => whnf); fail_if_success show False)
    | (rw [c_si]; (conv => whnf))
    | (refine ⟨_, rfl, ?_⟩; (conv => whnf))
    | (refine ⟨_, _, rfl, ?_⟩; (conv => whnf))
    | (refine ⟨_, _, _, rfl, ?_⟩; (conv => whnf))
    | (refine ⟨_, _, _, _, rfl, ?_⟩; (conv => whnf))
    | (refine And.intro (fun c => ?_) (fun c => ?_) <;> (first | (exact absurd c (by decide +kernel)) | (conv => whnf)))
    | fail)
  exact loop 0 (Nat.zero_le _)
theorem ct_X1_idle : xm_Ct cI yX1_idle (ws_ yX1_idle cX1_idle 3 (some .int)) 3 0 0 S_X1_idle := xm_enter (rt := 0) (init := false) (by decide +kernel) rfl (fun h => by cases h) (Or.inl ⟨rfl, rfl⟩) (oX1_idle) body_X1_idle
theorem cv_X1_idle {own : String} {cc : ByteArray} {fr pc idx : Nat} (hdg : decode cc pc = .ok (.invokevirtual idx, 3)) (hl : xm_ml own idx yX1_idle) (hfr : 3 < fr) : xm_CallOK cI own cc fr pc (pc + 3) 1 0 0 (xm_this 0 S_X1_idle) := xm_callV 0 cI_good (ct_X1_idle) hdg hl q993 q994 q116 q995 rfl rfl (by decide +kernel) hfr (by decide)
