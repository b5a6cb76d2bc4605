/-! ===== what holds of every state reached; claims ===== -/
set_option maxRecDepth 100000
def g_tok (K : gK) (T : gT) : Prop := (∃ y, y ≤ 200 ∧ gy T = nI y) ∧ (∀ p h, h < gn K → p < gm K → t_has (gw T p) h = true → g_al K T h = true) ∧ ∀ p, p < gm K → ∃ s, s ≤ 30 ∧ gs T p = nI s
def g_Kok (K : gK) : Prop := (gn K ≤ 9 ∧ gm K ≤ 8) ∧ (∀ h, h < gn K → (∃ n, n ≤ 9 ∧ glimp K h = nI n) ∧ (∃ n, n ≤ 40 ∧ gborn K h = nI n) ∧ ∃ n, n ≤ 60 ∧ gdies K h = nI n) ∧ (∀ p, p < gm K → (∃ n, n ≤ 15 ∧ gfall K p = nI n) ∧ (gneeds K p = nI 1 ∨ gneeds K p = nI 2) ∧ t_m9 (gquar K p)) ∧ ∃ n, n ≤ 9 ∧ gwear K = nI n
def g_Xok (G : gG) : Prop := (∀ h, t_m9 (gsil G h)) ∧ (∀ h g, h < 9 → g < 9 → t_has (gsil G h) g = t_has (gsil G g) h) ∧ ∀ a, a < gacts G → gmany G a ≤ 6 ∧ (∃ n, n ≤ 9 ∧ glaugh G a = nI n) ∧ (∀ i, i < gmany G a → gpup G a i < gm (gGK G)) ∧ ∀ i j, i < gmany G a → j < gmany G a → gpup G a i = gpup G a j → i = j
def g_ok (G : gG) : Prop := g_Kok (gGK G) ∧ g_Xok G ∧ g_tok (gGK G) (gbeg G) ∧ g_tok (gGK G) (gnow G) ∧ g_tok (gGK G) (gbase G) ∧ (∀ k, k < gimn G → g_tok (gGK G) (gim G k)) ∧ g_yok G
theorem g_ok.now {G : gG} (h : g_ok G) : g_tok (gGK G) (gnow G) := h.2.2.2.1
theorem g_ok.need {G : gG} (h : g_ok G) : g_need G := fun p hp => (h.1.2.2.1 p hp).2.1
abbrev bX1_claimOf_0 : List xE := [(.iconst 0, 1, 0, 0, 0), (.istore_n 2, 2, 0, 0, 0), (.iconst 0, 3, 0, 0, 0), (.istore_n 3, 4, 0, 0, 0)]
abbrev bX1_claimOf_4 : List xE := [(.iload_n 3, 5, 0, 0, 0), (.aload_n 0, 6, 0, 0, 0), (.getfield 31, 9, 0, 0, 1), (.getfield 133, 12, 1, 12, 0), (.if_icmp .ge 37, 15, 0, 49, 0), (.iload_n 2, 16, 0, 0, 0), (.aload_n 0, 17, 0, 0, 0), (.getfield 58, 20, 0, 5, 1), (.iload_n 3, 21, 0, 0, 0), (.iload_n 1, 22, 0, 0, 0), (.invokevirtual 303, 25, 0, 0, 9), (.ifCond .eq 15, 28, 0, 40, 0), (.aload_n 0, 29, 0, 0, 0), (.getfield 58, 32, 0, 5, 1), (.getfield 198, 35, 7, 3, 1), (.iload_n 3, 36, 0, 0, 0), (.iaload, 37, 0, 0, 0), (.goto 4, 40, 0, 41, 0)]
abbrev bX1_claimOf_40 : List xE := [(.iconst 0, 41, 0, 0, 0)]
abbrev bX1_claimOf_41 : List xE := [(.iadd, 42, 0, 0, 0), (.istore_n 2, 43, 0, 0, 0), (.iinc 3 1, 46, 0, 0, 0), (.goto (-42), 49, 0, 4, 0)]
abbrev bX1_claimOf_49 : List xE := [(.iload_n 2, 50, 0, 0, 0), (.ireturn, 51, 0, 0, 0)]
abbrev kX1_claimOf : List (Nat × List xE) := [(0, bX1_claimOf_0), (4, bX1_claimOf_4), (40, bX1_claimOf_40), (41, bX1_claimOf_41), (49, bX1_claimOf_49)]
abbrev lX1_claimOf : List (Nat × Nat × Nat × xS) := [(3, 0, 0, xm_this 7 S_X10_isOf)]
theorem oX1_claimOf_0  : xm_okb cI RX1 cX1_claimOf false 2 lX1_claimOf bX1_claimOf_0 0 := xo_0 dX1_claimOf_0 rfl trivial (xo_0 dX1_claimOf_1 rfl trivial (xo_0 dX1_claimOf_2 rfl trivial (xo_0 dX1_claimOf_3 rfl trivial (xo_n))))
theorem oX1_claimOf_4  : xm_okb cI RX1 cX1_claimOf false 2 lX1_claimOf bX1_claimOf_4 4 := xo_0 dX1_claimOf_4 rfl trivial (xo_0 dX1_claimOf_5 rfl trivial (xo_1 dX1_claimOf_6 rfl (xm_fg_of (Or.inl q716) (by decide) rfl (by decide) rfl rfl (Or.inl rfl) rfl) (xo_0 dX1_claimOf_9 rfl (xm_fg_of (Or.inr ⟨_, q560⟩) (by decide) rfl (by decide) rfl rfl (Or.inl rfl) rfl) (xo_0 dX1_claimOf_12 rfl rfl (xo_0 dX1_claimOf_15 rfl trivial (xo_0 dX1_claimOf_16 rfl trivial (xo_1 dX1_claimOf_17 rfl (xm_fg_of (Or.inl q724) (by decide) rfl (by decide) rfl rfl (Or.inl rfl) rfl) (xo_0 dX1_claimOf_20 rfl trivial (xo_0 dX1_claimOf_21 rfl trivial (xo_c rfl (cv_X10_isOf dX1_claimOf_22 (Or.inl q1693) (by decide)) (xo_0 dX1_claimOf_25 rfl rfl (xo_0 dX1_claimOf_28 rfl trivial (xo_1 dX1_claimOf_29 rfl (xm_fg_of (Or.inl q724) (by decide) rfl (by decide) rfl rfl (Or.inl rfl) rfl) (xo_1 dX1_claimOf_32 rfl (xm_fg_of (Or.inr ⟨_, q669⟩) (by decide) rfl (by decide) rfl rfl (Or.inl rfl) rfl) (xo_0 dX1_claimOf_35 rfl trivial (xo_0 dX1_claimOf_36 rfl trivial (xo_0 dX1_claimOf_37 rfl rfl (xo_n))))))))))))))))))
theorem oX1_claimOf_40  : xm_okb cI RX1 cX1_claimOf false 2 lX1_claimOf bX1_claimOf_40 40 := xo_0 dX1_claimOf_40 rfl trivial (xo_n)
theorem oX1_claimOf_41  : xm_okb cI RX1 cX1_claimOf false 2 lX1_claimOf bX1_claimOf_41 41 := xo_0 dX1_claimOf_41 rfl trivial (xo_0 dX1_claimOf_42 rfl trivial (xo_0 dX1_claimOf_43 rfl trivial (xo_0 dX1_claimOf_46 rfl rfl (xo_n))))
theorem oX1_claimOf_49  : xm_okb cI RX1 cX1_claimOf false 2 lX1_claimOf bX1_claimOf_49 49 := xo_0 dX1_claimOf_49 rfl trivial (xo_0 dX1_claimOf_50 rfl trivial (xo_n))
theorem oX1_claimOf  : ∀ q ∈ kX1_claimOf, xm_okb cI RX1 cX1_claimOf false 2 lX1_claimOf q.2 q.1 := by
  intro q hq
  simp only [List.mem_cons, List.not_mem_nil, or_false] at hq
  rcases hq with rfl | rfl | rfl | rfl | rfl
  · exact oX1_claimOf_0  
  · exact oX1_claimOf_4  
  · exact oX1_claimOf_40  
  · exact oX1_claimOf_41  
  · exact oX1_claimOf_49  
def S_X1_claimOf : xS := cU fun as P Z I Q QX => ∃ h L, as = [.ref 0, .int (nI h)] ∧ c_good P Z I L ∧ g_ok (cG P I L) ∧ h < c_h I ∧ Q (some (.int (g_claim (cG P I L) h))) I
theorem body_X1_claimOf : xm_Body 4 0 0 0 [] lX1_claimOf kX1_claimOf S_X1_claimOf := by
  intro X avs w Q QX hX0 hS
  have hG := xm_go [] hX0
  have hX := xm_go [4] hX0
  clear hX0
  obtain ⟨P, Z, I, rfl, h, L, rfl, hg, hk0, hh, hQ⟩ := hS
  have hok := hg.ok
  obtain ⟨hn, h9, hm, h8⟩ := id hok
  have h5 := c_5 (P := P)
  have loop : ∀ k, k ≤ c_p I → X 4 [some (.ref 0), some (.int (nI h)), some (.int (t_sum k fun p => if (g_al (cK I L) (cA I 5) h && t_has (gw (cA I 5) p) h) = true then gs (cA I 5) p else nI 0)), some (.int (nI k))] [] (cW P Z I) 0 0 := by
    refine t_for fun k h1 ih => ?_
    refine hG _ _ _ _ _ _ ?_
    (conv => whnf)
    repeat' (first
      | ((with_reducible refine @And.intro (vp_in _ _) _ ?_ ?_); (· (first | with_reducible assumption | ((with_reducible refine t_vin ?_); decide) | ((with_reducible refine vp_in_nI ?_ ?_) <;> first | omega | decide) | (simp (disch := omega) only [xl_n, xl_m, nI_dec, nI_sb, nI_add, pk_mul]; (with_reducible refine vp_in_nI ?_ ?_) <;> first | omega | decide))); (conv => whnf))
      | (refine And.intro (by first | with_reducible assumption | exact (show cL _ _ = _ from rfl) | decide) ?_; (conv => whnf))
      | ((with_reducible refine @And.intro (_ = _) _ ?_ ?_); (· rfl); (conv => whnf))
      | ((with_reducible refine @And.intro (@LE.le Nat _ _ _) _ ?_ ?_); (· (first | exact Nat.zero_le _ | exact Nat.le_of_ble_eq_true rfl | omega)); (conv => whnf))
      | ((with_reducible refine @And.intro (@LT.lt Nat _ _ _) _ ?_ ?_); (· omega); (conv => whnf))
      | ((with_reducible refine @And.intro (∃ _, _ = _) _ ?_ ?_); (· exact ⟨_, rfl⟩); (conv => whnf))
      | ((with_reducible refine @And.intro (_ ∨ _) _ ?_ ?_); (· (first | exact Or.inl rfl | exact Or.inr rfl | exact t_b01 _ | assumption)); (conv => whnf))
      | ((with_reducible refine @And.intro (¬ (_ = _)) _ ?_ ?_); (· first | assumption | (with_reducible assumption)); (conv => whnf))
      | (refine hX _ _ _ _ _ _ ?_; (conv => whnf); fail_if_success show False)
      | (rw [c_si]; (conv => whnf))
      | (refine ⟨_, rfl, ?_⟩; (conv => whnf))
      | (refine ⟨_, _, rfl, ?_⟩; (conv => whnf))
      | (refine ⟨_, _, _, rfl, ?_⟩; (conv => whnf))
      | (refine ⟨_, _, _, _, rfl, ?_⟩; (conv => whnf))
      | fail)
    refine And.intro (fun c => ?_) (fun c => ?_) <;> (conv => whnf)
    · repeat' (first
        | ((with_reducible refine @And.intro (vp_in _ _) _ ?_ ?_); (· (first | with_reducible assumption | ((with_reducible refine t_vin ?_); decide) | ((with_reducible refine vp_in_nI ?_ ?_) <;> first | omega | decide) | (simp (disch := omega) only [xl_n, xl_m, nI_dec, nI_sb, nI_add, pk_mul]; (with_reducible refine vp_in_nI ?_ ?_) <;> first | omega | decide))); (conv => whnf))
        | (refine And.intro (by first | with_reducible assumption | exact (show cL _ _ = _ from rfl) | decide) ?_; (conv => whnf))
        | ((with_reducible refine @And.intro (_ = _) _ ?_ ?_); (· rfl); (conv => whnf))
        | ((with_reducible refine @And.intro (@LE.le Nat _ _ _) _ ?_ ?_); (· (first | exact Nat.zero_le _ | exact Nat.le_of_ble_eq_true rfl | omega)); (conv => whnf))
        | ((with_reducible refine @And.intro (@LT.lt Nat _ _ _) _ ?_ ?_); (· omega); (conv => whnf))
        | ((with_reducible refine @And.intro (∃ _, _ = _) _ ?_ ?_); (· exact ⟨_, rfl⟩); (conv => whnf))
        | ((with_reducible refine @And.intro (_ ∨ _) _ ?_ ?_); (· (first | exact Or.inl rfl | exact Or.inr rfl | exact t_b01 _ | assumption)); (conv => whnf))
        | ((with_reducible refine @And.intro (¬ (_ = _)) _ ?_ ?_); (· first | assumption | (with_reducible assumption)); (conv => whnf))
        | (refine hX _ _ _ _ _ _ ?_; (conv => whnf); fail_if_success show False)
        | (rw [c_si]; (conv => whnf))
        | (refine ⟨_, rfl, ?_⟩; (conv => whnf))
        | (refine ⟨_, _, rfl, ?_⟩; (conv => whnf))
        | (refine ⟨_, _, _, rfl, ?_⟩; (conv => whnf))
        | (refine ⟨_, _, _, _, rfl, ?_⟩; (conv => whnf))
        | fail)
      have : k = c_p I := Nat.le_antisymm h1 (t_kge hm c (by omega) (by omega))
      subst this
      exact hQ
    · have hk : k < c_p I := t_klt hm c (by omega)
      have hk8 : k < 8 := by omega
      have ea : (g_al (cK I L) (cA I 5) h && t_has (gw (cA I 5) k) h) = t_has (I (10 * 5 + 1) k) h := by
        rw [← cA_gw (I := I) (r := 5) hk8]
        have hl := hk0.now.2.1 k h hh hk
        have hl : t_has (gw (cA I 5) k) h = true → g_al (cK I L) (cA I 5) h = true := hl
        cases q : t_has (gw (cA I 5) k) h with
        | false => rw [Bool.and_false]
        | true => rw [hl q]; rfl
      have := ih (k + 1) (by omega) (by omega)
      rw [t_sum_s, ea, cA_gs (by omega)] at this
      clear ih
      repeat' (first
        | ((with_reducible refine @And.intro (vp_in _ _) _ ?_ ?_); (· (first | with_reducible assumption | ((with_reducible refine t_vin ?_); decide) | ((with_reducible refine vp_in_nI ?_ ?_) <;> first | omega | decide) | (simp (disch := omega) only [xl_n, xl_m, nI_dec, nI_sb, nI_add, pk_mul]; (with_reducible refine vp_in_nI ?_ ?_) <;> first | omega | decide))); (conv => whnf))
        | (refine And.intro (by first | with_reducible assumption | exact (show cL _ _ = _ from rfl) | decide) ?_; (conv => whnf))
        | ((with_reducible refine @And.intro (_ = _) _ ?_ ?_); (· rfl); (conv => whnf))
        | ((with_reducible refine @And.intro (@LE.le Nat _ _ _) _ ?_ ?_); (· (first | exact Nat.zero_le _ | exact Nat.le_of_ble_eq_true rfl | omega)); (conv => whnf))
        | ((with_reducible refine @And.intro (@LT.lt Nat _ _ _) _ ?_ ?_); (· omega); (conv => whnf))
        | ((with_reducible refine @And.intro (∃ _, _ = _) _ ?_ ?_); (· exact ⟨_, rfl⟩); (conv => whnf))
        | ((with_reducible refine @And.intro (_ ∨ _) _ ?_ ?_); (· (first | exact Or.inl rfl | exact Or.inr rfl | exact t_b01 _ | assumption)); (conv => whnf))
        | ((with_reducible refine @And.intro (¬ (_ = _)) _ ?_ ?_); (· first | assumption | (with_reducible assumption)); (conv => whnf))
        | (refine hX _ _ _ _ _ _ ?_; (conv => whnf); fail_if_success show False)
        | (rw [c_si]; (conv => whnf))
        | (refine ⟨_, rfl, ?_⟩; (conv => whnf))
        | (refine ⟨_, _, rfl, ?_⟩; (conv => whnf))
        | (refine ⟨_, _, _, rfl, ?_⟩; (conv => whnf))
        | (refine ⟨_, _, _, _, rfl, ?_⟩; (conv => whnf))
        | (refine ⟨5,k,h,rfl,h5,hk8,?_⟩; (conv => whnf))
        | (rw [c_tl h5]; (conv => whnf))
        | (rw [c_t7 h5]; (conv => whnf))
        | (rw [c_tf h5 (by decide)]; (conv => whnf))
        | (rw [c_t0 h5]; (conv => whnf))
        | (rw [c_t1 h5]; (conv => whnf))
        | (rw [c_t2 h5]; (conv => whnf))
        | (rw [c_t3 h5]; (conv => whnf))
        | (rw [c_t4 h5]; (conv => whnf))
        | (rw [c_t5 h5]; (conv => whnf))
        | (refine And.intro ⟨_, c_tl h5⟩ ?_; (conv => whnf))
        | (refine And.intro (fun c => ?_) (fun c => ?_) <;> (first | (exact absurd c (by decide +kernel)) | (conv => whnf)))
        | fail)
      all_goals clear hX hG hQ
      all_goals simp (disch := omega) only [xl_n, xl_m, nI_dec, nI_sb, xl_0, xl_1, cW_i, Nat.add_zero, Nat.reduceAdd, Nat.reduceMul, t_bn0, t_bn1, Classical.not_not, t_lt, nI_add, nI_1, pk_mul, nI_clamp, c_si, nI_eq, nI_leI, nM_ne, nM_ne, xm_set, xm_lv0, xm_psh] at *
      all_goals simpa [*, t_bf, t_bt] using this
  refine ⟨rfl, ?_⟩
  repeat' (first
    | ((with_reducible refine @And.intro (vp_in _ _) _ ?_ ?_); (· (first | with_reducible assumption | ((with_reducible refine t_vin ?_); decide) | ((with_reducible refine vp_in_nI ?_ ?_) <;> first | omega | decide) | (simp (disch := omega) only [xl_n, xl_m, nI_dec, nI_sb, nI_add, pk_mul]; (with_reducible refine vp_in_nI ?_ ?_) <;> first | omega | decide))); (conv => whnf))
    | (refine And.intro (by first | with_reducible assumption | exact (show cL _ _ = _ from rfl) | decide) ?_; (conv => whnf))
    | ((with_reducible refine @And.intro (_ = _) _ ?_ ?_); (· rfl); (conv => whnf))
    | ((with_reducible refine @And.intro (@LE.le Nat _ _ _) _ ?_ ?_); (· (first | exact Nat.zero_le _ | exact Nat.le_of_ble_eq_true rfl | omega)); (conv => whnf))
    | ((with_reducible refine @And.intro (@LT.lt Nat _ _ _) _ ?_ ?_); (· omega); (conv => whnf))
    | ((with_reducible refine @And.intro (∃ _, _ = _) _ ?_ ?_); (· exact ⟨_, rfl⟩); (conv => whnf))
    | ((with_reducible refine @And.intro (_ ∨ _) _ ?_ ?_); (· (first | exact Or.inl rfl | exact Or.inr rfl | exact t_b01 _ | assumption)); (conv => whnf))
    | ((with_reducible refine @And.intro (¬ (_ = _)) _ ?_ ?_); (· first | assumption | (with_reducible assumption)); (conv => whnf))
    | (refine hX _ _ _ _ _ _ ?_; (conv => whnf); fail_if_success show False)
    | (rw [c_si]; (conv => whnf))
    | (refine ⟨_, rfl, ?_⟩; (conv => whnf))
    | (refine ⟨_, _, rfl, ?_⟩; (conv => whnf))
    | (refine ⟨_, _, _, rfl, ?_⟩; (conv => whnf))
    | (refine ⟨_, _, _, _, rfl, ?_⟩; (conv => whnf))
    | (refine And.intro (fun c => ?_) (fun c => ?_) <;> (first | (exact absurd c (by decide +kernel)) | (conv => whnf)))
    | fail)
  exact loop 0 (Nat.zero_le _)
theorem ct_X1_claimOf : xm_Ct cI yX1_claimOf (ws_ yX1_claimOf cX1_claimOf 4 (some .int)) 2 0 0 S_X1_claimOf := xm_enter (rt := 0) (init := false) (by decide +kernel) rfl (fun h => by cases h) (Or.inl ⟨rfl, rfl⟩) (oX1_claimOf) body_X1_claimOf
theorem cv_X1_claimOf {own : String} {cc : ByteArray} {fr pc idx : Nat} (hdg : decode cc pc = .ok (.invokevirtual idx, 3)) (hl : xm_ml own idx yX1_claimOf) (hfr : 2 < fr) : xm_CallOK cI own cc fr pc (pc + 3) 2 0 0 (xm_this 0 S_X1_claimOf) := xm_callV 0 cI_good (ct_X1_claimOf) hdg hl q1803 qs42 q116 q1804 rfl rfl (by decide +kernel) hfr (by decide)
theorem t_less_c {a b : Int32} : t_less a b = t_less b a := by
  unfold t_less
  by_cases h1 : a ≤ b
  · by_cases h2 : b ≤ a
    · have := Int32.le_antisymm h1 h2
      subst this
      rfl
    · simp [h1, h2]
  · have h2 : b ≤ a := Int32.le_of_lt (Int32.not_le.mp h1)
    simp [h1, h2]
abbrev bX1_levelled_0 : List xE := [(.iconst 0, 1, 0, 0, 0), (.istore_n 2, 2, 0, 0, 0), (.iconst 0, 3, 0, 0, 0), (.istore_n 3, 4, 0, 0, 0)]
abbrev bX1_levelled_4 : List xE := [(.iload_n 3, 5, 0, 0, 0), (.aload_n 0, 6, 0, 0, 0), (.getfield 31, 9, 0, 0, 1), (.getfield 126, 12, 1, 11, 0), (.if_icmp .ge 21, 15, 0, 33, 0), (.iload_n 2, 16, 0, 0, 0), (.aload_n 0, 17, 0, 0, 0), (.iload_n 3, 18, 0, 0, 0), (.invokevirtual 368, 21, 0, 0, 9), (.iload_n 1, 22, 0, 0, 0), (.invokestatic 288, 25, 0, 1, 9), (.iadd, 26, 0, 0, 0), (.istore_n 2, 27, 0, 0, 0), (.iinc 3 1, 30, 0, 0, 0), (.goto (-26), 33, 0, 4, 0)]
abbrev bX1_levelled_33 : List xE := [(.iload_n 2, 34, 0, 0, 0), (.ireturn, 35, 0, 0, 0)]
abbrev kX1_levelled : List (Nat × List xE) := [(0, bX1_levelled_0), (4, bX1_levelled_4), (33, bX1_levelled_33)]
abbrev lX1_levelled : List (Nat × Nat × Nat × xS) := [(2, 0, 0, xm_this 0 S_X1_claimOf), (2, 0, 0, S_J12_min)]
theorem oX1_levelled_0  : xm_okb cI RX1 cX1_levelled false 3 lX1_levelled bX1_levelled_0 0 := xo_0 dX1_levelled_0 rfl trivial (xo_0 dX1_levelled_1 rfl trivial (xo_0 dX1_levelled_2 rfl trivial (xo_0 dX1_levelled_3 rfl trivial (xo_n))))
theorem oX1_levelled_4  : xm_okb cI RX1 cX1_levelled false 3 lX1_levelled bX1_levelled_4 4 := xo_0 dX1_levelled_4 rfl trivial (xo_0 dX1_levelled_5 rfl trivial (xo_1 dX1_levelled_6 rfl (xm_fg_of (Or.inl q716) (by decide) rfl (by decide) rfl rfl (Or.inl rfl) rfl) (xo_0 dX1_levelled_9 rfl (xm_fg_of (Or.inr ⟨_, q556⟩) (by decide) rfl (by decide) rfl rfl (Or.inl rfl) rfl) (xo_0 dX1_levelled_12 rfl rfl (xo_0 dX1_levelled_15 rfl trivial (xo_0 dX1_levelled_16 rfl trivial (xo_0 dX1_levelled_17 rfl trivial (xo_c rfl (cv_X1_claimOf dX1_levelled_18 (Or.inl q1801) (by decide)) (xo_0 dX1_levelled_21 rfl trivial (xo_c rfl (xc_min dX1_levelled_22 q1652 (by decide)) (xo_0 dX1_levelled_25 rfl trivial (xo_0 dX1_levelled_26 rfl trivial (xo_0 dX1_levelled_27 rfl trivial (xo_0 dX1_levelled_30 rfl rfl (xo_n)))))))))))))))
theorem oX1_levelled_33  : xm_okb cI RX1 cX1_levelled false 3 lX1_levelled bX1_levelled_33 33 := xo_0 dX1_levelled_33 rfl trivial (xo_0 dX1_levelled_34 rfl trivial (xo_n))
theorem oX1_levelled  : ∀ q ∈ kX1_levelled, xm_okb cI RX1 cX1_levelled false 3 lX1_levelled q.2 q.1 := by
  intro q hq
  simp only [List.mem_cons, List.not_mem_nil, or_false] at hq
  rcases hq with rfl | rfl | rfl
  · exact oX1_levelled_0  
  · exact oX1_levelled_4  
  · exact oX1_levelled_33  
def S_X1_levelled : xS := cU fun as P Z I Q QX => ∃ b L, as = [.ref 0, .int b] ∧ c_good P Z I L ∧ g_ok (cG P I L) ∧ Q (some (.int (g_claims (cG P I L) b))) I
theorem body_X1_levelled : xm_Body 4 0 0 0 [] lX1_levelled kX1_levelled S_X1_levelled := by
  intro X avs w Q QX hX0 hS
  have hG := xm_go [] hX0
  have hX := xm_go [4] hX0
  clear hX0
  obtain ⟨P, Z, I, rfl, b, L, rfl, hg, hk0, hQ⟩ := hS
  have hok := hg.ok
  obtain ⟨hn, h9, hm, h8⟩ := id hok
  have loop : ∀ k, k ≤ c_h I → X 4 [some (.ref 0), some (.int b), some (.int (t_sum k fun h => t_less b (g_claim (cG P I L) h))), some (.int (nI k))] [] (cW P Z I) 0 0 := by
    refine t_for fun k h1 ih => ?_
    refine hG _ _ _ _ _ _ ?_
    (conv => whnf)
    repeat' (first
      | ((with_reducible refine @And.intro (vp_in _ _) _ ?_ ?_); (· (first | with_reducible assumption | ((with_reducible refine t_vin ?_); decide) | ((with_reducible refine vp_in_nI ?_ ?_) <;> first | omega | decide) | (simp (disch := omega) only [xl_n, xl_m, nI_dec, nI_sb, nI_add, pk_mul]; (with_reducible refine vp_in_nI ?_ ?_) <;> first | omega | decide))); (conv => whnf))
      | (refine And.intro (by first | with_reducible assumption | exact (show cL _ _ = _ from rfl) | decide) ?_; (conv => whnf))
      | ((with_reducible refine @And.intro (_ = _) _ ?_ ?_); (· rfl); (conv => whnf))
      | ((with_reducible refine @And.intro (@LE.le Nat _ _ _) _ ?_ ?_); (· (first | exact Nat.zero_le _ | exact Nat.le_of_ble_eq_true rfl | omega)); (conv => whnf))
      | ((with_reducible refine @And.intro (@LT.lt Nat _ _ _) _ ?_ ?_); (· omega); (conv => whnf))
      | ((with_reducible refine @And.intro (∃ _, _ = _) _ ?_ ?_); (· exact ⟨_, rfl⟩); (conv => whnf))
      | ((with_reducible refine @And.intro (_ ∨ _) _ ?_ ?_); (· (first | exact Or.inl rfl | exact Or.inr rfl | exact t_b01 _ | assumption)); (conv => whnf))
      | ((with_reducible refine @And.intro (¬ (_ = _)) _ ?_ ?_); (· first | assumption | (with_reducible assumption)); (conv => whnf))
      | (refine hX _ _ _ _ _ _ ?_; (conv => whnf); fail_if_success show False)
      | (rw [c_si]; (conv => whnf))
      | (refine ⟨_, rfl, ?_⟩; (conv => whnf))
      | (refine ⟨_, _, rfl, ?_⟩; (conv => whnf))
      | (refine ⟨_, _, _, rfl, ?_⟩; (conv => whnf))
      | (refine ⟨_, _, _, _, rfl, ?_⟩; (conv => whnf))
      | fail)
    refine And.intro (fun c => ?_) (fun c => ?_) <;> (conv => whnf)
    · repeat' (first
        | ((with_reducible refine @And.intro (vp_in _ _) _ ?_ ?_); (· (first | with_reducible assumption | ((with_reducible refine t_vin ?_); decide) | ((with_reducible refine vp_in_nI ?_ ?_) <;> first | omega | decide) | (simp (disch := omega) only [xl_n, xl_m, nI_dec, nI_sb, nI_add, pk_mul]; (with_reducible refine vp_in_nI ?_ ?_) <;> first | omega | decide))); (conv => whnf))
        | (refine And.intro (by first | with_reducible assumption | exact (show cL _ _ = _ from rfl) | decide) ?_; (conv => whnf))
        | ((with_reducible refine @And.intro (_ = _) _ ?_ ?_); (· rfl); (conv => whnf))
        | ((with_reducible refine @And.intro (@LE.le Nat _ _ _) _ ?_ ?_); (· (first | exact Nat.zero_le _ | exact Nat.le_of_ble_eq_true rfl | omega)); (conv => whnf))
        | ((with_reducible refine @And.intro (@LT.lt Nat _ _ _) _ ?_ ?_); (· omega); (conv => whnf))
        | ((with_reducible refine @And.intro (∃ _, _ = _) _ ?_ ?_); (· exact ⟨_, rfl⟩); (conv => whnf))
        | ((with_reducible refine @And.intro (_ ∨ _) _ ?_ ?_); (· (first | exact Or.inl rfl | exact Or.inr rfl | exact t_b01 _ | assumption)); (conv => whnf))
        | ((with_reducible refine @And.intro (¬ (_ = _)) _ ?_ ?_); (· first | assumption | (with_reducible assumption)); (conv => whnf))
        | (refine hX _ _ _ _ _ _ ?_; (conv => whnf); fail_if_success show False)
        | (rw [c_si]; (conv => whnf))
        | (refine ⟨_, rfl, ?_⟩; (conv => whnf))
        | (refine ⟨_, _, rfl, ?_⟩; (conv => whnf))
        | (refine ⟨_, _, _, rfl, ?_⟩; (conv => whnf))
        | (refine ⟨_, _, _, _, rfl, ?_⟩; (conv => whnf))
        | fail)
      have : k = c_h I := Nat.le_antisymm h1 (t_kge hn c (by omega) (by omega))
      subst this
      exact hQ
    · have hk : k < c_h I := t_klt hn c (by omega)
      have := ih (k + 1) (by omega) (by omega)
      rw [t_sum_s] at this
      clear ih
      repeat' (first
        | ((with_reducible refine @And.intro (vp_in _ _) _ ?_ ?_); (· (first | with_reducible assumption | ((with_reducible refine t_vin ?_); decide) | ((with_reducible refine vp_in_nI ?_ ?_) <;> first | omega | decide) | (simp (disch := omega) only [xl_n, xl_m, nI_dec, nI_sb, nI_add, pk_mul]; (with_reducible refine vp_in_nI ?_ ?_) <;> first | omega | decide))); (conv => whnf))
        | (refine And.intro (by first | with_reducible assumption | exact (show cL _ _ = _ from rfl) | decide) ?_; (conv => whnf))
        | ((with_reducible refine @And.intro (_ = _) _ ?_ ?_); (· rfl); (conv => whnf))
        | ((with_reducible refine @And.intro (@LE.le Nat _ _ _) _ ?_ ?_); (· (first | exact Nat.zero_le _ | exact Nat.le_of_ble_eq_true rfl | omega)); (conv => whnf))
        | ((with_reducible refine @And.intro (@LT.lt Nat _ _ _) _ ?_ ?_); (· omega); (conv => whnf))
        | ((with_reducible refine @And.intro (∃ _, _ = _) _ ?_ ?_); (· exact ⟨_, rfl⟩); (conv => whnf))
        | ((with_reducible refine @And.intro (_ ∨ _) _ ?_ ?_); (· (first | exact Or.inl rfl | exact Or.inr rfl | exact t_b01 _ | assumption)); (conv => whnf))
        | ((with_reducible refine @And.intro (¬ (_ = _)) _ ?_ ?_); (· first | assumption | (with_reducible assumption)); (conv => whnf))
        | (refine hX _ _ _ _ _ _ ?_; (conv => whnf); fail_if_success show False)
        | (rw [c_si]; (conv => whnf))
        | (refine ⟨_, rfl, ?_⟩; (conv => whnf))
        | (refine ⟨_, _, rfl, ?_⟩; (conv => whnf))
        | (refine ⟨_, _, _, rfl, ?_⟩; (conv => whnf))
        | (refine ⟨_, _, _, _, rfl, ?_⟩; (conv => whnf))
        | (refine ⟨k,L,rfl,hg,hk0,hk,?_⟩; (conv => whnf))
        | (refine And.intro (fun c => ?_) (fun c => ?_) <;> (first | (exact absurd c (by decide +kernel)) | (conv => whnf)))
        | fail)
      rw [t_less_c] at this
      clear hX hG hQ
      simp (disch := omega) only [xl_n, xl_m, nI_dec, nI_sb, xl_0, xl_1, cW_i, Nat.add_zero, Nat.reduceAdd, Nat.reduceMul, t_bn0, t_bn1, Classical.not_not, t_lt, nI_add, nI_1, pk_mul, nI_clamp, c_si, nI_eq, nI_leI, nM_ne, nM_ne, xm_set, xm_lv0, xm_psh] at *
      exact this
  refine ⟨rfl, ?_⟩
  repeat' (first
    | ((with_reducible refine @And.intro (vp_in _ _) _ ?_ ?_); (· (first | with_reducible assumption | ((with_reducible refine t_vin ?_); decide) | ((with_reducible refine vp_in_nI ?_ ?_) <;> first | omega | decide) | (simp (disch := omega) only [xl_n, xl_m, nI_dec, nI_sb, nI_add, pk_mul]; (with_reducible refine vp_in_nI ?_ ?_) <;> first | omega | decide))); (conv => whnf))
    | (refine And.intro (by first | with_reducible assumption | exact (show cL _ _ = _ from rfl) | decide) ?_; (conv => whnf))
    | ((with_reducible refine @And.intro (_ = _) _ ?_ ?_); (· rfl); (conv => whnf))
    | ((with_reducible refine @And.intro (@LE.le Nat _ _ _) _ ?_ ?_); (· (first | exact Nat.zero_le _ | exact Nat.le_of_ble_eq_true rfl | omega)); (conv => whnf))
    | ((with_reducible refine @And.intro (@LT.lt Nat _ _ _) _ ?_ ?_); (· omega); (conv => whnf))
    | ((with_reducible refine @And.intro (∃ _, _ = _) _ ?_ ?_); (· exact ⟨_, rfl⟩); (conv => whnf))
    | ((with_reducible refine @And.intro (_ ∨ _) _ ?_ ?_); (· (first | exact Or.inl rfl | exact Or.inr rfl | exact t_b01 _ | assumption)); (conv => whnf))
    | ((with_reducible refine @And.intro (¬ (_ = _)) _ ?_ ?_); (· first | assumption | (with_reducible assumption)); (conv => whnf))
    | (refine hX _ _ _ _ _ _ ?_; (conv => whnf); fail_if_success show False)
    | (rw [c_si]; (conv => whnf))
    | (refine ⟨_, rfl, ?_⟩; (conv => whnf))
    | (refine ⟨_, _, rfl, ?_⟩; (conv => whnf))
    | (refine ⟨_, _, _, rfl, ?_⟩; (conv => whnf))
    | (refine ⟨_, _, _, _, rfl, ?_⟩; (conv => whnf))
    | (refine And.intro (fun c => ?_) (fun c => ?_) <;> (first | (exact absurd c (by decide +kernel)) | (conv => whnf)))
    | fail)
  exact loop 0 (Nat.zero_le _)
theorem ct_X1_levelled : xm_Ct cI yX1_levelled (ws_ yX1_levelled cX1_levelled 4 (some .int)) 3 0 0 S_X1_levelled := xm_enter (rt := 0) (init := false) (by decide +kernel) rfl (fun h => by cases h) (Or.inl ⟨rfl, rfl⟩) (oX1_levelled) body_X1_levelled
theorem cv_X1_levelled {own : String} {cc : ByteArray} {fr pc idx : Nat} (hdg : decode cc pc = .ok (.invokevirtual idx, 3)) (hl : xm_ml own idx yX1_levelled) (hfr : 3 < fr) : xm_CallOK cI own cc fr pc (pc + 3) 2 0 0 (xm_this 0 S_X1_levelled) := xm_callV 0 cI_good (ct_X1_levelled) hdg hl q1807 qs43 q116 q1808 rfl rfl (by decide +kernel) hfr (by decide)
abbrev bX1_dropped_0 : List xE := [(.aload_n 0, 1, 0, 0, 0), (.iload_n 1, 2, 0, 0, 0), (.invokevirtual 238, 5, 0, 0, 9), (.aload_n 0, 6, 0, 0, 0), (.iload_n 2, 7, 0, 0, 0), (.ifCond .lt 13, 10, 0, 20, 0), (.iload_n 2, 11, 0, 0, 0), (.bipush 16, 13, 0, 0, 0), (.if_icmp .ge 7, 16, 0, 20, 0), (.iconst 1, 17, 0, 0, 0), (.goto 4, 20, 0, 21, 0)]
abbrev bX1_dropped_20 : List xE := [(.iconst 0, 21, 0, 0, 0)]
abbrev bX1_dropped_21 : List xE := [(.invokevirtual 160, 24, 0, 1, 9), (.iconst 0, 25, 0, 0, 0), (.istore_n 3, 26, 0, 0, 0), (.iconst 0, 27, 0, 0, 0), (.istore 4, 29, 0, 0, 0)]
abbrev bX1_dropped_29 : List xE := [(.iload 4, 31, 0, 0, 0), (.aload_n 0, 32, 0, 0, 0), (.getfield 31, 35, 0, 0, 1), (.getfield 126, 38, 1, 11, 0), (.if_icmp .ge 45, 41, 0, 83, 0), (.iload_n 3, 42, 0, 0, 0), (.aload_n 0, 43, 0, 0, 0), (.getfield 58, 46, 0, 5, 1), (.getfield 226, 49, 7, 0, 1), (.iload 4, 51, 0, 0, 0), (.iaload, 52, 0, 0, 0), (.iconst 1, 53, 0, 0, 0), (.if_icmp .ne 21, 56, 0, 74, 0), (.aload_n 0, 57, 0, 0, 0), (.iload_n 1, 58, 0, 0, 0), (.iload 4, 60, 0, 0, 0), (.invokevirtual 356, 63, 0, 2, 9), (.iload_n 2, 64, 0, 0, 0), (.if_icmp .ne 10, 67, 0, 74, 0), (.iconst 1, 68, 0, 0, 0), (.iload 4, 70, 0, 0, 0), (.ishl, 71, 0, 0, 0), (.goto 4, 74, 0, 75, 0)]
abbrev bX1_dropped_74 : List xE := [(.iconst 0, 75, 0, 0, 0)]
abbrev bX1_dropped_75 : List xE := [(.ior, 76, 0, 0, 0), (.istore_n 3, 77, 0, 0, 0), (.iinc 4 1, 80, 0, 0, 0), (.goto (-51), 83, 0, 29, 0)]
abbrev bX1_dropped_83 : List xE := [(.iload_n 3, 84, 0, 0, 0), (.ireturn, 85, 0, 0, 0)]
abbrev kX1_dropped : List (Nat × List xE) := [(0, bX1_dropped_0), (20, bX1_dropped_20), (21, bX1_dropped_21), (29, bX1_dropped_29), (74, bX1_dropped_74), (75, bX1_dropped_75), (83, bX1_dropped_83)]
abbrev lX1_dropped : List (Nat × Nat × Nat × xS) := [(2, 1, 6, xm_this 0 S_X1_needPuppet), (2, 1, 6, xm_this 0 S_X1_need), (3, 0, 0, xm_this 0 S_X1_liesBy)]
theorem oX1_dropped_0  : xm_okb cI RX1 cX1_dropped false 8 lX1_dropped bX1_dropped_0 0 := xo_0 dX1_dropped_0 rfl trivial (xo_0 dX1_dropped_1 rfl trivial (xo_c rfl (cv_X1_needPuppet dX1_dropped_2 (Or.inl q1607) (by decide)) (xo_0 dX1_dropped_5 rfl trivial (xo_0 dX1_dropped_6 rfl trivial (xo_0 dX1_dropped_7 rfl rfl (xo_0 dX1_dropped_10 rfl trivial (xo_0 dX1_dropped_11 rfl (xo_bipush (by decide +kernel)) (xo_0 dX1_dropped_13 rfl rfl (xo_0 dX1_dropped_16 rfl trivial (xo_0 dX1_dropped_17 rfl rfl (xo_n)))))))))))
theorem oX1_dropped_20  : xm_okb cI RX1 cX1_dropped false 8 lX1_dropped bX1_dropped_20 20 := xo_0 dX1_dropped_20 rfl trivial (xo_n)
theorem oX1_dropped_21  : xm_okb cI RX1 cX1_dropped false 8 lX1_dropped bX1_dropped_21 21 := xo_c rfl (cv_X1_need dX1_dropped_21 (Or.inl q1030) (by decide)) (xo_0 dX1_dropped_24 rfl trivial (xo_0 dX1_dropped_25 rfl trivial (xo_0 dX1_dropped_26 rfl trivial (xo_0 dX1_dropped_27 rfl trivial (xo_n)))))
theorem oX1_dropped_29  : xm_okb cI RX1 cX1_dropped false 8 lX1_dropped bX1_dropped_29 29 := xo_0 dX1_dropped_29 rfl trivial (xo_0 dX1_dropped_31 rfl trivial (xo_1 dX1_dropped_32 rfl (xm_fg_of (Or.inl q716) (by decide) rfl (by decide) rfl rfl (Or.inl rfl) rfl) (xo_0 dX1_dropped_35 rfl (xm_fg_of (Or.inr ⟨_, q556⟩) (by decide) rfl (by decide) rfl rfl (Or.inl rfl) rfl) (xo_0 dX1_dropped_38 rfl rfl (xo_0 dX1_dropped_41 rfl trivial (xo_0 dX1_dropped_42 rfl trivial (xo_1 dX1_dropped_43 rfl (xm_fg_of (Or.inl q724) (by decide) rfl (by decide) rfl rfl (Or.inl rfl) rfl) (xo_1 dX1_dropped_46 rfl (xm_fg_of (Or.inr ⟨_, q663⟩) (by decide) rfl (by decide) rfl rfl (Or.inl rfl) rfl) (xo_0 dX1_dropped_49 rfl trivial (xo_0 dX1_dropped_51 rfl trivial (xo_0 dX1_dropped_52 rfl trivial (xo_0 dX1_dropped_53 rfl rfl (xo_0 dX1_dropped_56 rfl trivial (xo_0 dX1_dropped_57 rfl trivial (xo_0 dX1_dropped_58 rfl trivial (xo_c rfl (cv_X1_liesBy dX1_dropped_60 (Or.inl q1762) (by decide)) (xo_0 dX1_dropped_63 rfl trivial (xo_0 dX1_dropped_64 rfl rfl (xo_0 dX1_dropped_67 rfl trivial (xo_0 dX1_dropped_68 rfl trivial (xo_0 dX1_dropped_70 rfl trivial (xo_0 dX1_dropped_71 rfl rfl (xo_n)))))))))))))))))))))))
theorem oX1_dropped_74  : xm_okb cI RX1 cX1_dropped false 8 lX1_dropped bX1_dropped_74 74 := xo_0 dX1_dropped_74 rfl trivial (xo_n)
theorem oX1_dropped_75  : xm_okb cI RX1 cX1_dropped false 8 lX1_dropped bX1_dropped_75 75 := xo_0 dX1_dropped_75 rfl trivial (xo_0 dX1_dropped_76 rfl trivial (xo_0 dX1_dropped_77 rfl trivial (xo_0 dX1_dropped_80 rfl rfl (xo_n))))
theorem oX1_dropped_83  : xm_okb cI RX1 cX1_dropped false 8 lX1_dropped bX1_dropped_83 83 := xo_0 dX1_dropped_83 rfl trivial (xo_0 dX1_dropped_84 rfl trivial (xo_n))
theorem oX1_dropped  : ∀ q ∈ kX1_dropped, xm_okb cI RX1 cX1_dropped false 8 lX1_dropped q.2 q.1 := by
  intro q hq
  simp only [List.mem_cons, List.not_mem_nil, or_false] at hq
  rcases hq with rfl | rfl | rfl | rfl | rfl | rfl | rfl
  · exact oX1_dropped_0  
  · exact oX1_dropped_20  
  · exact oX1_dropped_21  
  · exact oX1_dropped_29  
  · exact oX1_dropped_74  
  · exact oX1_dropped_75  
  · exact oX1_dropped_83  
def S_X1_dropped : xS := cU fun as P Z I Q QX => ∃ a b L, as = [.ref 0, .int a, .int b] ∧ c_good P Z I L ∧ c_P P Z L (cG P I L) Q QX (q_dropped (cG P I L) a b)
theorem body_X1_dropped : xm_Body 5 0 2 12 [] lX1_dropped kX1_dropped S_X1_dropped := by
  intro X avs w Q QX hX0 hS
  have hG := xm_go [] hX0
  have hX := xm_go [29] hX0
  clear hX0
  obtain ⟨P, Z, I, rfl, a, b, L, rfl, hg, hQ⟩ := hS
  have hok := hg.ok
  obtain ⟨hn, h9, hm, h8⟩ := id hok
  have h5 := c_5 (P := P)
  have ht := hg.now
  refine ⟨rfl, ?_⟩
  repeat' (first
    | ((with_reducible refine @And.intro (vp_in _ _) _ ?_ ?_); (· (first | with_reducible assumption | ((with_reducible refine t_vin ?_); decide) | ((with_reducible refine vp_in_nI ?_ ?_) <;> first | omega | decide) | (simp (disch := omega) only [xl_n, xl_m, nI_dec, nI_sb, nI_add, pk_mul]; (with_reducible refine vp_in_nI ?_ ?_) <;> first | omega | decide))); (conv => whnf))
    | (refine And.intro (by first | with_reducible assumption | exact (show cL _ _ = _ from rfl) | decide) ?_; (conv => whnf))
    | ((with_reducible refine @And.intro (_ = _) _ ?_ ?_); (· rfl); (conv => whnf))
    | ((with_reducible refine @And.intro (@LE.le Nat _ _ _) _ ?_ ?_); (· (first | exact Nat.zero_le _ | exact Nat.le_of_ble_eq_true rfl | omega)); (conv => whnf))
    | ((with_reducible refine @And.intro (@LT.lt Nat _ _ _) _ ?_ ?_); (· omega); (conv => whnf))
    | ((with_reducible refine @And.intro (∃ _, _ = _) _ ?_ ?_); (· exact ⟨_, rfl⟩); (conv => whnf))
    | ((with_reducible refine @And.intro (_ ∨ _) _ ?_ ?_); (· (first | exact Or.inl rfl | exact Or.inr rfl | exact t_b01 _ | assumption)); (conv => whnf))
    | ((with_reducible refine @And.intro (¬ (_ = _)) _ ?_ ?_); (· first | assumption | (with_reducible assumption)); (conv => whnf))
    | (refine hX _ _ _ _ _ _ ?_; (conv => whnf); fail_if_success show False)
    | (rw [c_si]; (conv => whnf))
    | (refine ⟨_, rfl, ?_⟩; (conv => whnf))
    | (refine ⟨_, _, rfl, ?_⟩; (conv => whnf))
    | (refine ⟨_, _, _, rfl, ?_⟩; (conv => whnf))
    | (refine ⟨_, _, _, _, rfl, ?_⟩; (conv => whnf))
    | (refine ⟨a,rfl,hok,?_⟩; (conv => whnf))
    | fail)
  refine ⟨fun e => ?_, fun e x hx => ?_⟩
  · obtain ⟨p, hp, rfl⟩ := t_in_of (by omega) e
    have f : g_isP (cG P I L) (nI p) = true := e
    rw [q_dropped, f, g_ck_t] at hQ
    (conv => whnf)
    rcases c_rc b 0 15 (A := 0) (B := Int32.ofInt 15) (by decide +kernel) (by decide +kernel) (by omega) (by omega) with ⟨n, -, hn6, rfl, e1⟩ | ⟨e1, h1⟩ | ⟨e1, h1, h2⟩
    · rw [e1, g_ck_t, nI_clamp (by omega)] at hQ
      have loop : ∀ k, k ≤ c_h I → X 29 [some (.ref 0), some (.int (nI p)), some (.int (nI n)), some (.int (t_or k fun h => g_al (cK I L) (cA I 5) h && decide (g_lies (cG P I L) p h = nI n))), some (.int (nI k))] [] (cW P Z I) 0 0 := by
        refine t_for fun k h1 ih => ?_
        refine hG _ _ _ _ _ _ ?_
        (conv => whnf)
        repeat' (first
          | ((with_reducible refine @And.intro (vp_in _ _) _ ?_ ?_); (· (first | with_reducible assumption | ((with_reducible refine t_vin ?_); decide) | ((with_reducible refine vp_in_nI ?_ ?_) <;> first | omega | decide) | (simp (disch := omega) only [xl_n, xl_m, nI_dec, nI_sb, nI_add, pk_mul]; (with_reducible refine vp_in_nI ?_ ?_) <;> first | omega | decide))); (conv => whnf))
          | (refine And.intro (by first | with_reducible assumption | exact (show cL _ _ = _ from rfl) | decide) ?_; (conv => whnf))
          | ((with_reducible refine @And.intro (_ = _) _ ?_ ?_); (· rfl); (conv => whnf))
          | ((with_reducible refine @And.intro (@LE.le Nat _ _ _) _ ?_ ?_); (· (first | exact Nat.zero_le _ | exact Nat.le_of_ble_eq_true rfl | omega)); (conv => whnf))
          | ((with_reducible refine @And.intro (@LT.lt Nat _ _ _) _ ?_ ?_); (· omega); (conv => whnf))
          | ((with_reducible refine @And.intro (∃ _, _ = _) _ ?_ ?_); (· exact ⟨_, rfl⟩); (conv => whnf))
          | ((with_reducible refine @And.intro (_ ∨ _) _ ?_ ?_); (· (first | exact Or.inl rfl | exact Or.inr rfl | exact t_b01 _ | assumption)); (conv => whnf))
          | ((with_reducible refine @And.intro (¬ (_ = _)) _ ?_ ?_); (· first | assumption | (with_reducible assumption)); (conv => whnf))
          | (refine hX _ _ _ _ _ _ ?_; (conv => whnf); fail_if_success show False)
          | (rw [c_si]; (conv => whnf))
          | (refine ⟨_, rfl, ?_⟩; (conv => whnf))
          | (refine ⟨_, _, rfl, ?_⟩; (conv => whnf))
          | (refine ⟨_, _, _, rfl, ?_⟩; (conv => whnf))
          | (refine ⟨_, _, _, _, rfl, ?_⟩; (conv => whnf))
          | fail)
        refine And.intro (fun c => ?_) (fun c => ?_) <;> (conv => whnf)
        · repeat' (first
            | ((with_reducible refine @And.intro (vp_in _ _) _ ?_ ?_); (· (first | with_reducible assumption | ((with_reducible refine t_vin ?_); decide) | ((with_reducible refine vp_in_nI ?_ ?_) <;> first | omega | decide) | (simp (disch := omega) only [xl_n, xl_m, nI_dec, nI_sb, nI_add, pk_mul]; (with_reducible refine vp_in_nI ?_ ?_) <;> first | omega | decide))); (conv => whnf))
            | (refine And.intro (by first | with_reducible assumption | exact (show cL _ _ = _ from rfl) | decide) ?_; (conv => whnf))
            | ((with_reducible refine @And.intro (_ = _) _ ?_ ?_); (· rfl); (conv => whnf))
            | ((with_reducible refine @And.intro (@LE.le Nat _ _ _) _ ?_ ?_); (· (first | exact Nat.zero_le _ | exact Nat.le_of_ble_eq_true rfl | omega)); (conv => whnf))
            | ((with_reducible refine @And.intro (@LT.lt Nat _ _ _) _ ?_ ?_); (· omega); (conv => whnf))
            | ((with_reducible refine @And.intro (∃ _, _ = _) _ ?_ ?_); (· exact ⟨_, rfl⟩); (conv => whnf))
            | ((with_reducible refine @And.intro (_ ∨ _) _ ?_ ?_); (· (first | exact Or.inl rfl | exact Or.inr rfl | exact t_b01 _ | assumption)); (conv => whnf))
            | ((with_reducible refine @And.intro (¬ (_ = _)) _ ?_ ?_); (· first | assumption | (with_reducible assumption)); (conv => whnf))
            | (refine hX _ _ _ _ _ _ ?_; (conv => whnf); fail_if_success show False)
            | (rw [c_si]; (conv => whnf))
            | (refine ⟨_, rfl, ?_⟩; (conv => whnf))
            | (refine ⟨_, _, rfl, ?_⟩; (conv => whnf))
            | (refine ⟨_, _, _, rfl, ?_⟩; (conv => whnf))
            | (refine ⟨_, _, _, _, rfl, ?_⟩; (conv => whnf))
            | fail)
          have : k = c_h I := Nat.le_antisymm h1 (t_kge hn c (by omega) (by omega))
          subst this
          exact c_ask hQ hg c_sp.rf rfl
        · have hk : k < c_h I := t_klt hn c (by omega)
          have hal := c_is_ald (L := L) ht.2.2.1 hk
          have := ih (k + 1) (by omega) (by omega)
          clear ih
          rw [t_or_s, hal] at this
          repeat' (first
            | ((with_reducible refine @And.intro (vp_in _ _) _ ?_ ?_); (· (first | with_reducible assumption | ((with_reducible refine t_vin ?_); decide) | ((with_reducible refine vp_in_nI ?_ ?_) <;> first | omega | decide) | (simp (disch := omega) only [xl_n, xl_m, nI_dec, nI_sb, nI_add, pk_mul]; (with_reducible refine vp_in_nI ?_ ?_) <;> first | omega | decide))); (conv => whnf))
            | (refine And.intro (by first | with_reducible assumption | exact (show cL _ _ = _ from rfl) | decide) ?_; (conv => whnf))
            | ((with_reducible refine @And.intro (_ = _) _ ?_ ?_); (· rfl); (conv => whnf))
            | ((with_reducible refine @And.intro (@LE.le Nat _ _ _) _ ?_ ?_); (· (first | exact Nat.zero_le _ | exact Nat.le_of_ble_eq_true rfl | omega)); (conv => whnf))
            | ((with_reducible refine @And.intro (@LT.lt Nat _ _ _) _ ?_ ?_); (· omega); (conv => whnf))
            | ((with_reducible refine @And.intro (∃ _, _ = _) _ ?_ ?_); (· exact ⟨_, rfl⟩); (conv => whnf))
            | ((with_reducible refine @And.intro (_ ∨ _) _ ?_ ?_); (· (first | exact Or.inl rfl | exact Or.inr rfl | exact t_b01 _ | assumption)); (conv => whnf))
            | ((with_reducible refine @And.intro (¬ (_ = _)) _ ?_ ?_); (· first | assumption | (with_reducible assumption)); (conv => whnf))
            | (refine hX _ _ _ _ _ _ ?_; (conv => whnf); fail_if_success show False)
            | (rw [c_si]; (conv => whnf))
            | (refine ⟨_, rfl, ?_⟩; (conv => whnf))
            | (refine ⟨_, _, rfl, ?_⟩; (conv => whnf))
            | (refine ⟨_, _, _, rfl, ?_⟩; (conv => whnf))
            | (refine ⟨_, _, _, _, rfl, ?_⟩; (conv => whnf))
            | (refine ⟨p,k,L,rfl,hg,hp,hk,?_⟩; (conv => whnf))
            | (rw [c_tl h5]; (conv => whnf))
            | (rw [c_t7 h5]; (conv => whnf))
            | (rw [c_tf h5 (by decide)]; (conv => whnf))
            | (rw [c_t0 h5]; (conv => whnf))
            | (rw [c_t1 h5]; (conv => whnf))
            | (rw [c_t2 h5]; (conv => whnf))
            | (rw [c_t3 h5]; (conv => whnf))
            | (rw [c_t4 h5]; (conv => whnf))
            | (rw [c_t5 h5]; (conv => whnf))
            | (refine And.intro ⟨_, c_tl h5⟩ ?_; (conv => whnf))
            | (refine And.intro (fun c => ?_) (fun c => ?_) <;> (first | (exact absurd c (by decide +kernel)) | (conv => whnf)))
            | fail)
          all_goals clear hX hG hQ
          all_goals simp (disch := omega) only [xl_n, xl_m, nI_dec, nI_sb, xl_0, xl_1, cW_i, Nat.add_zero, Nat.reduceAdd, Nat.reduceMul, t_bn0, t_bn1, Classical.not_not, t_lt, nI_add, nI_1, pk_mul, nI_clamp, c_si, nI_eq, nI_leI, nM_ne, nM_ne, xm_set, xm_lv0, xm_psh] at *
          all_goals simpa [t_bit, *] using this
      have d1 : ¬ nI n < 0 := fun q => absurd ((nI_nn (n := n) (by omega)).1) (fun z => z q)
      have d2 : ¬ Int32.ofInt 16 ≤ nI n := fun q => by
        have : nI 16 ≤ nI n := q
        rw [nI_leI (by omega) (by omega)] at this
        omega
      repeat' (first
        | ((with_reducible refine @And.intro (vp_in _ _) _ ?_ ?_); (· (first | with_reducible assumption | ((with_reducible refine t_vin ?_); decide) | ((with_reducible refine vp_in_nI ?_ ?_) <;> first | omega | decide) | (simp (disch := omega) only [xl_n, xl_m, nI_dec, nI_sb, nI_add, pk_mul]; (with_reducible refine vp_in_nI ?_ ?_) <;> first | omega | decide))); (conv => whnf))
        | (refine And.intro (by first | with_reducible assumption | exact (show cL _ _ = _ from rfl) | decide) ?_; (conv => whnf))
        | ((with_reducible refine @And.intro (_ = _) _ ?_ ?_); (· rfl); (conv => whnf))
        | ((with_reducible refine @And.intro (@LE.le Nat _ _ _) _ ?_ ?_); (· (first | exact Nat.zero_le _ | exact Nat.le_of_ble_eq_true rfl | omega)); (conv => whnf))
        | ((with_reducible refine @And.intro (@LT.lt Nat _ _ _) _ ?_ ?_); (· omega); (conv => whnf))
        | ((with_reducible refine @And.intro (∃ _, _ = _) _ ?_ ?_); (· exact ⟨_, rfl⟩); (conv => whnf))
        | ((with_reducible refine @And.intro (_ ∨ _) _ ?_ ?_); (· (first | exact Or.inl rfl | exact Or.inr rfl | exact t_b01 _ | assumption)); (conv => whnf))
        | ((with_reducible refine @And.intro (¬ (_ = _)) _ ?_ ?_); (· first | assumption | (with_reducible assumption)); (conv => whnf))
        | (refine hX _ _ _ _ _ _ ?_; (conv => whnf); fail_if_success show False)
        | (rw [c_si]; (conv => whnf))
        | (refine ⟨_, rfl, ?_⟩; (conv => whnf))
        | (refine ⟨_, _, rfl, ?_⟩; (conv => whnf))
        | (refine ⟨_, _, _, rfl, ?_⟩; (conv => whnf))
        | (refine ⟨_, _, _, _, rfl, ?_⟩; (conv => whnf))
        | (refine ⟨true,rfl,?_⟩; (conv => whnf))
        | (refine ⟨false,rfl,?_⟩; (conv => whnf))
        | (refine And.intro (fun c => ?_) (fun c => ?_) <;> (first | (exact absurd c (by decide +kernel)) | (exact absurd c (by assumption)) | (exact False.elim (c (by assumption))) | (conv => whnf)))
        | fail)
      exact loop 0 (Nat.zero_le _)
    · repeat' (first
        | ((with_reducible refine @And.intro (vp_in _ _) _ ?_ ?_); (· (first | with_reducible assumption | ((with_reducible refine t_vin ?_); decide) | ((with_reducible refine vp_in_nI ?_ ?_) <;> first | omega | decide) | (simp (disch := omega) only [xl_n, xl_m, nI_dec, nI_sb, nI_add, pk_mul]; (with_reducible refine vp_in_nI ?_ ?_) <;> first | omega | decide))); (conv => whnf))
        | (refine And.intro (by first | with_reducible assumption | exact (show cL _ _ = _ from rfl) | decide) ?_; (conv => whnf))
        | ((with_reducible refine @And.intro (_ = _) _ ?_ ?_); (· rfl); (conv => whnf))
        | ((with_reducible refine @And.intro (@LE.le Nat _ _ _) _ ?_ ?_); (· (first | exact Nat.zero_le _ | exact Nat.le_of_ble_eq_true rfl | omega)); (conv => whnf))
        | ((with_reducible refine @And.intro (@LT.lt Nat _ _ _) _ ?_ ?_); (· omega); (conv => whnf))
        | ((with_reducible refine @And.intro (∃ _, _ = _) _ ?_ ?_); (· exact ⟨_, rfl⟩); (conv => whnf))
        | ((with_reducible refine @And.intro (_ ∨ _) _ ?_ ?_); (· (first | exact Or.inl rfl | exact Or.inr rfl | exact t_b01 _ | assumption)); (conv => whnf))
        | ((with_reducible refine @And.intro (¬ (_ = _)) _ ?_ ?_); (· first | assumption | (with_reducible assumption)); (conv => whnf))
        | (refine hX _ _ _ _ _ _ ?_; (conv => whnf); fail_if_success show False)
        | (rw [c_si]; (conv => whnf))
        | (refine ⟨_, rfl, ?_⟩; (conv => whnf))
        | (refine ⟨_, _, rfl, ?_⟩; (conv => whnf))
        | (refine ⟨_, _, _, rfl, ?_⟩; (conv => whnf))
        | (refine ⟨_, _, _, _, rfl, ?_⟩; (conv => whnf))
        | (refine ⟨true,rfl,?_⟩; (conv => whnf))
        | (refine ⟨false,rfl,?_⟩; (conv => whnf))
        | (refine And.intro (fun c => ?_) (fun c => ?_) <;> (first | (exact absurd c (by decide +kernel)) | (exact absurd c (by assumption)) | (exact False.elim (c (by assumption))) | (conv => whnf)))
        | fail)
      intro x hx
      exact c_ref1 hQ hg e1 hx n2_0
    · have d2 : Int32.ofInt 16 ≤ b := by
        obtain ⟨m, hm2, rfl⟩ := nI_of (x := b) h1
        have h2 : nI 15 < nI m := h2
        have : ¬ nI m ≤ nI 15 := Int32.not_le.mpr h2
        rw [nI_leI hm2 (by omega)] at this
        exact (nI_leI (a := 16) (b := m) (by omega) hm2).mpr (by omega)
      repeat' (first
        | ((with_reducible refine @And.intro (vp_in _ _) _ ?_ ?_); (· (first | with_reducible assumption | ((with_reducible refine t_vin ?_); decide) | ((with_reducible refine vp_in_nI ?_ ?_) <;> first | omega | decide) | (simp (disch := omega) only [xl_n, xl_m, nI_dec, nI_sb, nI_add, pk_mul]; (with_reducible refine vp_in_nI ?_ ?_) <;> first | omega | decide))); (conv => whnf))
        | (refine And.intro (by first | with_reducible assumption | exact (show cL _ _ = _ from rfl) | decide) ?_; (conv => whnf))
        | ((with_reducible refine @And.intro (_ = _) _ ?_ ?_); (· rfl); (conv => whnf))
        | ((with_reducible refine @And.intro (@LE.le Nat _ _ _) _ ?_ ?_); (· (first | exact Nat.zero_le _ | exact Nat.le_of_ble_eq_true rfl | omega)); (conv => whnf))
        | ((with_reducible refine @And.intro (@LT.lt Nat _ _ _) _ ?_ ?_); (· omega); (conv => whnf))
        | ((with_reducible refine @And.intro (∃ _, _ = _) _ ?_ ?_); (· exact ⟨_, rfl⟩); (conv => whnf))
        | ((with_reducible refine @And.intro (_ ∨ _) _ ?_ ?_); (· (first | exact Or.inl rfl | exact Or.inr rfl | exact t_b01 _ | assumption)); (conv => whnf))
        | ((with_reducible refine @And.intro (¬ (_ = _)) _ ?_ ?_); (· first | assumption | (with_reducible assumption)); (conv => whnf))
        | (refine hX _ _ _ _ _ _ ?_; (conv => whnf); fail_if_success show False)
        | (rw [c_si]; (conv => whnf))
        | (refine ⟨_, rfl, ?_⟩; (conv => whnf))
        | (refine ⟨_, _, rfl, ?_⟩; (conv => whnf))
        | (refine ⟨_, _, _, rfl, ?_⟩; (conv => whnf))
        | (refine ⟨_, _, _, _, rfl, ?_⟩; (conv => whnf))
        | (refine ⟨true,rfl,?_⟩; (conv => whnf))
        | (refine ⟨false,rfl,?_⟩; (conv => whnf))
        | (refine And.intro (fun c => ?_) (fun c => ?_) <;> (first | (exact absurd c (by decide +kernel)) | (exact absurd c (by assumption)) | (exact False.elim (c (by assumption))) | (conv => whnf)))
        | fail)
      intro x hx
      exact c_ref1 hQ hg e1 hx n2_0
  · exact c_ref0 hQ hg e hx n1_0
theorem ct_X1_dropped : xm_Ct cI yX1_dropped (ws_ yX1_dropped cX1_dropped 5 (some .int)) 8 2 12 S_X1_dropped := xm_enter (rt := 0) (init := false) (by decide +kernel) rfl (fun h => by cases h) (Or.inl ⟨rfl, rfl⟩) (oX1_dropped) body_X1_dropped
theorem cv_X1_dropped {own : String} {cc : ByteArray} {fr pc idx : Nat} (hdg : decode cc pc = .ok (.invokevirtual idx, 3)) (hl : xm_ml own idx yX1_dropped) (hfr : 8 < fr) : xm_CallOK cI own cc fr pc (pc + 3) 3 2 12 (xm_this 0 S_X1_dropped) := xm_callV 0 cI_good (ct_X1_dropped) hdg hl q1770 q1771 q116 q1772 rfl rfl (by decide +kernel) hfr (by decide)
