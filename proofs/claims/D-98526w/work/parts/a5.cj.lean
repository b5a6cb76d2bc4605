/-! ===== a troupe: years, becomes ===== -/
set_option maxRecDepth 100000
set_option maxHeartbeats 4000000
theorem gy_fold {f : Nat → gT → gT} (hf : ∀ k T, gy (f k T) = gy T) : ∀ (n : Nat) (T : gT), gy (t_fold n f T) = gy T
  | 0, _ => rfl
  | n + 1, T => (hf n _).trans (gy_fold hf n T)
theorem gy_die (K : gK) (T : gT) (h : Nat) : gy (g_die K T h) = gy T := gy_fold (fun k T => by
  split
  · rfl
  · rfl) _ (g_dead T h)
theorem gy_fill (K : gK) (p : Nat) : ∀ (f : Nat) (T : gT), gy (g_fill K p f T) = gy T
  | 0, _ => rfl
  | f + 1, T => by
    show gy (if _ then _ else _) = _
    split
    · rfl
    · split
      · rfl
      · exact gy_fill K p f _
theorem gy_ends (K : gK) (d : Int32) (T : gT) : gy (g_ends K d T) = gy T := by
  unfold g_ends g_wears g_fills g_deaths
  rw [gy_fold (fun k T => by
    split
    · rfl
    · rfl), gy_fold (fun k T => gy_fill K k 10 T), gy_fold (fun k T => by
    split
    · exact gy_die K T k
    · rfl)]
theorem gy_goes (K : gK) (T : gT) : gy (g_goes K T) = gy T + nI 1 := gy_ends K _ _
theorem gy_gos (K : gK) (T : gT) {n : Nat} (h : gy T = nI n) : ∀ k, gy (g_gos K k T) = nI (n + k)
  | 0 => h
  | k + 1 => by rw [g_gos_s, gy_goes, gy_gos K T h k, nI_add]; rfl
abbrev bX10_goes_0 : List xE := [(.aload_n 0, 1, 0, 0, 0), (.invokevirtual 137, 4, 0, 0, 9), (.aload_n 0, 5, 0, 0, 0), (.invokevirtual 140, 8, 0, 1, 9), (.aload_n 0, 9, 0, 0, 0), (.invokevirtual 143, 12, 0, 2, 9), (.aload_n 0, 13, 0, 0, 0), (.areturn, 14, 0, 0, 0)]
abbrev kX10_goes : List (Nat × List xE) := [(0, bX10_goes_0)]
abbrev lX10_goes : List (Nat × Nat × Nat × xS) := [(1, 0, 0, xm_this 7 S_X10_begin), (1, 0, 0, xm_this 7 S_X10_deaths), (1, 0, 0, xm_this 7 S_X10_choices)]
theorem oX10_goes_0  : xm_okb cI RX10 cX10_goes false 163 lX10_goes bX10_goes_0 0 := xo_0 dX10_goes_0 rfl trivial (xo_c rfl (cv_X10_begin dX10_goes_1 (Or.inl q876) (by decide)) (xo_0 dX10_goes_4 rfl trivial (xo_c rfl (cv_X10_deaths dX10_goes_5 (Or.inl q880) (by decide)) (xo_0 dX10_goes_8 rfl trivial (xo_c rfl (cv_X10_choices dX10_goes_9 (Or.inl q897) (by decide)) (xo_0 dX10_goes_12 rfl trivial (xo_0 dX10_goes_13 rfl trivial (xo_n))))))))
theorem oX10_goes  : ∀ q ∈ kX10_goes, xm_okb cI RX10 cX10_goes false 163 lX10_goes q.2 q.1 := by
  intro q hq
  simp only [List.mem_cons, List.not_mem_nil, or_false] at hq
  subst hq
  exact oX10_goes_0  
def S_X10_goes : xS := cU fun as P X I Q QX => ∃ r L n, as = [.ref r] ∧ c_ts P X I r L ∧ I r 6 = nI n ∧ n < 100000 ∧ ∀ J, c_sc r I J → c_ts P X J r L → cA J r = g_goes (cK I L) (cA I r) → Q (some (.ref r)) J
theorem body_X10_goes : xm_Body 1 3 0 0 [] lX10_goes kX10_goes S_X10_goes := by
  intro X avs w Q QX hX0 hS
  have hG := xm_go [] hX0
  have hX := xm_go [] hX0
  clear hX0
  obtain ⟨P, Z, I, rfl, r, L, n, rfl, ht, hy, hn, hQ⟩ := hS
  have hr := ht.1
  refine ⟨rfl, ?_⟩
  repeat' (first
    | ((with_reducible refine @And.intro (vp_in _ _) _ ?_ ?_); (· (first | with_reducible assumption | ((with_reducible refine t_vin ?_); decide) | ((with_reducible refine vp_in_nI ?_ ?_) <;> first | omega | decide) | (simp (disch := omega) only [xl_n, xl_m, nI_dec, nI_sb, nI_add, pk_mul]; (with_reducible refine vp_in_nI ?_ ?_) <;> first | omega | decide))); (conv => whnf))
    | (refine And.intro (by first | with_reducible assumption | exact (show cL _ _ = _ from rfl) | decide) ?_; (conv => whnf))
    | ((with_reducible refine @And.intro (_ = _) _ ?_ ?_); (· rfl); (conv => whnf))
    | ((with_reducible refine @And.intro (@LE.le Nat _ _ _) _ ?_ ?_); (· (first | exact Nat.zero_le _ | exact Nat.le_of_ble_eq_true rfl | omega)); (conv => whnf))
    | ((with_reducible refine @And.intro (@LT.lt Nat _ _ _) _ ?_ ?_); (· omega); (conv => whnf))
    | ((with_reducible refine @And.intro (∃ _, _ = _) _ ?_ ?_); (· exact ⟨_, rfl⟩); (conv => whnf))
    | ((with_reducible refine @And.intro (_ ∨ _) _ ?_ ?_); (· (first | exact Or.inl rfl | exact Or.inr rfl | exact t_b01 _ | assumption)); (conv => whnf))
    | ((with_reducible refine @And.intro (¬ (_ = _)) _ ?_ ?_); (· first | assumption | (with_reducible assumption)); (conv => whnf))
    | (refine hX _ _ _ _ _ _ ?_; (conv => whnf); fail_if_success show False)
    | (rw [c_si]; (conv => whnf))
    | (refine ⟨_, rfl, ?_⟩; (conv => whnf))
    | (refine ⟨_, _, rfl, ?_⟩; (conv => whnf))
    | (refine ⟨_, _, _, rfl, ?_⟩; (conv => whnf))
    | (refine ⟨_, _, _, _, rfl, ?_⟩; (conv => whnf))
    | (refine ⟨r,L,n,rfl,ht,hy,hn,?_⟩; (conv => whnf))
    | (rw [c_tl hr]; (conv => whnf))
    | (rw [c_t7 hr]; (conv => whnf))
    | (rw [c_tf hr (by decide)]; (conv => whnf))
    | (rw [c_t0 hr]; (conv => whnf))
    | (rw [c_t1 hr]; (conv => whnf))
    | (rw [c_t2 hr]; (conv => whnf))
    | (rw [c_t3 hr]; (conv => whnf))
    | (rw [c_t4 hr]; (conv => whnf))
    | (rw [c_t5 hr]; (conv => whnf))
    | (refine And.intro ⟨_, c_tl hr⟩ ?_; (conv => whnf))
    | (refine And.intro (fun c => ?_) (fun c => ?_) <;> (first | (exact absurd c (by decide +kernel)) | (conv => whnf)))
    | fail)
  intro J h1 t1 e1
  (conv => whnf)
  repeat' (first
    | ((with_reducible refine @And.intro (vp_in _ _) _ ?_ ?_); (· (first | with_reducible assumption | ((with_reducible refine t_vin ?_); decide) | ((with_reducible refine vp_in_nI ?_ ?_) <;> first | omega | decide) | (simp (disch := omega) only [xl_n, xl_m, nI_dec, nI_sb, nI_add, pk_mul]; (with_reducible refine vp_in_nI ?_ ?_) <;> first | omega | decide))); (conv => whnf))
    | (refine And.intro (by first | with_reducible assumption | exact (show cL _ _ = _ from rfl) | decide) ?_; (conv => whnf))
    | ((with_reducible refine @And.intro (_ = _) _ ?_ ?_); (· rfl); (conv => whnf))
    | ((with_reducible refine @And.intro (@LE.le Nat _ _ _) _ ?_ ?_); (· (first | exact Nat.zero_le _ | exact Nat.le_of_ble_eq_true rfl | omega)); (conv => whnf))
    | ((with_reducible refine @And.intro (@LT.lt Nat _ _ _) _ ?_ ?_); (· omega); (conv => whnf))
    | ((with_reducible refine @And.intro (∃ _, _ = _) _ ?_ ?_); (· exact ⟨_, rfl⟩); (conv => whnf))
    | ((with_reducible refine @And.intro (_ ∨ _) _ ?_ ?_); (· (first | exact Or.inl rfl | exact Or.inr rfl | exact t_b01 _ | assumption)); (conv => whnf))
    | ((with_reducible refine @And.intro (¬ (_ = _)) _ ?_ ?_); (· first | assumption | (with_reducible assumption)); (conv => whnf))
    | (refine hX _ _ _ _ _ _ ?_; (conv => whnf); fail_if_success show False)
    | (rw [c_si]; (conv => whnf))
    | (refine ⟨_, rfl, ?_⟩; (conv => whnf))
    | (refine ⟨_, _, rfl, ?_⟩; (conv => whnf))
    | (refine ⟨_, _, _, rfl, ?_⟩; (conv => whnf))
    | (refine ⟨_, _, _, _, rfl, ?_⟩; (conv => whnf))
    | (refine ⟨r,L,rfl,t1,?_⟩; (conv => whnf))
    | (rw [c_tl hr]; (conv => whnf))
    | (rw [c_t7 hr]; (conv => whnf))
    | (rw [c_tf hr (by decide)]; (conv => whnf))
    | (rw [c_t0 hr]; (conv => whnf))
    | (rw [c_t1 hr]; (conv => whnf))
    | (rw [c_t2 hr]; (conv => whnf))
    | (rw [c_t3 hr]; (conv => whnf))
    | (rw [c_t4 hr]; (conv => whnf))
    | (rw [c_t5 hr]; (conv => whnf))
    | (refine And.intro ⟨_, c_tl hr⟩ ?_; (conv => whnf))
    | (refine And.intro (fun c => ?_) (fun c => ?_) <;> (first | (exact absurd c (by decide +kernel)) | (conv => whnf)))
    | fail)
  intro M h2 t2 e2
  (conv => whnf)
  repeat' (first
    | ((with_reducible refine @And.intro (vp_in _ _) _ ?_ ?_); (· (first | with_reducible assumption | ((with_reducible refine t_vin ?_); decide) | ((with_reducible refine vp_in_nI ?_ ?_) <;> first | omega | decide) | (simp (disch := omega) only [xl_n, xl_m, nI_dec, nI_sb, nI_add, pk_mul]; (with_reducible refine vp_in_nI ?_ ?_) <;> first | omega | decide))); (conv => whnf))
    | (refine And.intro (by first | with_reducible assumption | exact (show cL _ _ = _ from rfl) | decide) ?_; (conv => whnf))
    | ((with_reducible refine @And.intro (_ = _) _ ?_ ?_); (· rfl); (conv => whnf))
    | ((with_reducible refine @And.intro (@LE.le Nat _ _ _) _ ?_ ?_); (· (first | exact Nat.zero_le _ | exact Nat.le_of_ble_eq_true rfl | omega)); (conv => whnf))
    | ((with_reducible refine @And.intro (@LT.lt Nat _ _ _) _ ?_ ?_); (· omega); (conv => whnf))
    | ((with_reducible refine @And.intro (∃ _, _ = _) _ ?_ ?_); (· exact ⟨_, rfl⟩); (conv => whnf))
    | ((with_reducible refine @And.intro (_ ∨ _) _ ?_ ?_); (· (first | exact Or.inl rfl | exact Or.inr rfl | exact t_b01 _ | assumption)); (conv => whnf))
    | ((with_reducible refine @And.intro (¬ (_ = _)) _ ?_ ?_); (· first | assumption | (with_reducible assumption)); (conv => whnf))
    | (refine hX _ _ _ _ _ _ ?_; (conv => whnf); fail_if_success show False)
    | (rw [c_si]; (conv => whnf))
    | (refine ⟨_, rfl, ?_⟩; (conv => whnf))
    | (refine ⟨_, _, rfl, ?_⟩; (conv => whnf))
    | (refine ⟨_, _, _, rfl, ?_⟩; (conv => whnf))
    | (refine ⟨_, _, _, _, rfl, ?_⟩; (conv => whnf))
    | (refine ⟨r,L,rfl,t2,?_⟩; (conv => whnf))
    | (rw [c_tl hr]; (conv => whnf))
    | (rw [c_t7 hr]; (conv => whnf))
    | (rw [c_tf hr (by decide)]; (conv => whnf))
    | (rw [c_t0 hr]; (conv => whnf))
    | (rw [c_t1 hr]; (conv => whnf))
    | (rw [c_t2 hr]; (conv => whnf))
    | (rw [c_t3 hr]; (conv => whnf))
    | (rw [c_t4 hr]; (conv => whnf))
    | (rw [c_t5 hr]; (conv => whnf))
    | (refine And.intro ⟨_, c_tl hr⟩ ?_; (conv => whnf))
    | (refine And.intro (fun c => ?_) (fun c => ?_) <;> (first | (exact absurd c (by decide +kernel)) | (conv => whnf)))
    | fail)
  intro N h3 t3 e3
  (conv => whnf)
  have fin := hQ N ((h1.tr h2).tr h3) t3 (by
    rw [e3, e2, e1, h2.K hr, (h2.h hr).2, h1.K hr, (h1.h hr).1, (h1.h hr).2]
    rfl)
  repeat' (first
    | ((with_reducible refine @And.intro (vp_in _ _) _ ?_ ?_); (· (first | with_reducible assumption | ((with_reducible refine t_vin ?_); decide) | ((with_reducible refine vp_in_nI ?_ ?_) <;> first | omega | decide) | (simp (disch := omega) only [xl_n, xl_m, nI_dec, nI_sb, nI_add, pk_mul]; (with_reducible refine vp_in_nI ?_ ?_) <;> first | omega | decide))); (conv => whnf))
    | (refine And.intro (by first | with_reducible assumption | exact (show cL _ _ = _ from rfl) | decide) ?_; (conv => whnf))
    | ((with_reducible refine @And.intro (_ = _) _ ?_ ?_); (· rfl); (conv => whnf))
    | ((with_reducible refine @And.intro (@LE.le Nat _ _ _) _ ?_ ?_); (· (first | exact Nat.zero_le _ | exact Nat.le_of_ble_eq_true rfl | omega)); (conv => whnf))
    | ((with_reducible refine @And.intro (@LT.lt Nat _ _ _) _ ?_ ?_); (· omega); (conv => whnf))
    | ((with_reducible refine @And.intro (∃ _, _ = _) _ ?_ ?_); (· exact ⟨_, rfl⟩); (conv => whnf))
    | ((with_reducible refine @And.intro (_ ∨ _) _ ?_ ?_); (· (first | exact Or.inl rfl | exact Or.inr rfl | exact t_b01 _ | assumption)); (conv => whnf))
    | ((with_reducible refine @And.intro (¬ (_ = _)) _ ?_ ?_); (· first | assumption | (with_reducible assumption)); (conv => whnf))
    | (refine hX _ _ _ _ _ _ ?_; (conv => whnf); fail_if_success show False)
    | (rw [c_si]; (conv => whnf))
    | (refine ⟨_, rfl, ?_⟩; (conv => whnf))
    | (refine ⟨_, _, rfl, ?_⟩; (conv => whnf))
    | (refine ⟨_, _, _, rfl, ?_⟩; (conv => whnf))
    | (refine ⟨_, _, _, _, rfl, ?_⟩; (conv => whnf))
    | (refine And.intro (fun c => ?_) (fun c => ?_) <;> (first | (exact absurd c (by decide +kernel)) | (conv => whnf)))
    | fail)
  exact fin
theorem ct_X10_goes : xm_Ct cI yX10_goes (ws_ yX10_goes cX10_goes 1 (some (.object "PuppetHeirs$Troupe"))) 163 0 0 S_X10_goes := xm_enter (rt := 3) (init := false) (by decide +kernel) rfl (fun h => by cases h) (Or.inr (Or.inr (Or.inr (Or.inl ⟨rfl, Or.inl ⟨_, rfl⟩⟩)))) (oX10_goes) body_X10_goes
theorem cv_X10_goes {own : String} {cc : ByteArray} {fr pc idx : Nat} (hdg : decode cc pc = .ok (.invokevirtual idx, 3)) (hl : xm_ml own idx yX10_goes) (hfr : 163 < fr) : xm_CallOK cI own cc fr pc (pc + 3) 1 0 0 (xm_this 7 S_X10_goes) := xm_callV 7 cI_good (ct_X10_goes) hdg hl q873 q874 q144 q875 rfl rfl (by decide +kernel) hfr (by decide)
abbrev bX10_goes_2_0 : List xE := [(.iconst 0, 1, 0, 0, 0), (.istore_n 2, 2, 0, 0, 0)]
abbrev bX10_goes_2_2 : List xE := [(.iload_n 2, 3, 0, 0, 0), (.iload_n 1, 4, 0, 0, 0), (.if_icmp .ge 14, 7, 0, 18, 0), (.aload_n 0, 8, 0, 0, 0), (.invokevirtual 146, 11, 0, 0, 9), (.pop, 12, 0, 0, 0), (.iinc 2 1, 15, 0, 0, 0), (.goto (-13), 18, 0, 2, 0)]
abbrev bX10_goes_2_18 : List xE := [(.aload_n 0, 19, 0, 0, 0), (.areturn, 20, 0, 0, 0)]
abbrev kX10_goes_2 : List (Nat × List xE) := [(0, bX10_goes_2_0), (2, bX10_goes_2_2), (18, bX10_goes_2_18)]
abbrev lX10_goes_2 : List (Nat × Nat × Nat × xS) := [(1, 0, 0, xm_this 7 S_X10_goes)]
theorem oX10_goes_2_0  : xm_okb cI RX10 cX10_goes_2 false 164 lX10_goes_2 bX10_goes_2_0 0 := xo_0 dX10_goes_2_0 rfl trivial (xo_0 dX10_goes_2_1 rfl trivial (xo_n))
theorem oX10_goes_2_2  : xm_okb cI RX10 cX10_goes_2 false 164 lX10_goes_2 bX10_goes_2_2 2 := xo_0 dX10_goes_2_2 rfl trivial (xo_0 dX10_goes_2_3 rfl trivial (xo_0 dX10_goes_2_4 rfl rfl (xo_0 dX10_goes_2_7 rfl trivial (xo_c rfl (cv_X10_goes dX10_goes_2_8 (Or.inl q1657) (by decide)) (xo_0 dX10_goes_2_11 rfl trivial (xo_0 dX10_goes_2_12 rfl trivial (xo_0 dX10_goes_2_15 rfl rfl (xo_n))))))))
theorem oX10_goes_2_18  : xm_okb cI RX10 cX10_goes_2 false 164 lX10_goes_2 bX10_goes_2_18 18 := xo_0 dX10_goes_2_18 rfl trivial (xo_0 dX10_goes_2_19 rfl trivial (xo_n))
theorem oX10_goes_2  : ∀ q ∈ kX10_goes_2, xm_okb cI RX10 cX10_goes_2 false 164 lX10_goes_2 q.2 q.1 := by
  intro q hq
  simp only [List.mem_cons, List.not_mem_nil, or_false] at hq
  rcases hq with rfl | rfl | rfl
  · exact oX10_goes_2_0  
  · exact oX10_goes_2_2  
  · exact oX10_goes_2_18  
def S_X10_goes_2 : xS := cU fun as P X I Q QX => ∃ r L n m, as = [.ref r, .int (nI m)] ∧ c_ts P X I r L ∧ I r 6 = nI n ∧ n + m < 100000 ∧ ∀ J, c_sc r I J → c_ts P X J r L → cA J r = g_gos (cK I L) m (cA I r) → Q (some (.ref r)) J
theorem body_X10_goes_2 : xm_Body 3 3 0 0 [] lX10_goes_2 kX10_goes_2 S_X10_goes_2 := by
  intro X avs w Q QX hX0 hS
  have hG := xm_go [] hX0
  have hX := xm_go [2] hX0
  clear hX0
  obtain ⟨P, Z, I, rfl, r, L, n, m, rfl, ht, hy, hn, hQ⟩ := hS
  have hr := ht.1
  have loop : ∀ k, k ≤ m → ∀ J, c_sc r I J → c_ts P Z J r L → cA J r = g_gos (cK I L) k (cA I r) → X 2 [some (.ref r), some (.int (nI m)), some (.int (nI k))] [] (cW P Z J) 0 0 := by
    refine t_for fun k h1 ih J hJ hts hA => ?_
    have hyJ : J r 6 = nI (n + k) := by
      rw [← cA_gy (I := J) (r := r), hA]
      exact gy_gos _ (cA I r) hy k
    have ih := fun q => ih (k + 1) (by omega) q
    refine hG _ _ _ _ _ _ ?_
    (conv => whnf)
    repeat' (first
      | ((with_reducible refine @And.intro (vp_in _ _) _ ?_ ?_); (· (first | with_reducible assumption | ((with_reducible refine t_vin ?_); decide) | ((with_reducible refine vp_in_nI ?_ ?_) <;> first | omega | decide) | (simp (disch := omega) only [xl_n, xl_m, nI_dec, nI_sb, nI_add, pk_mul]; (with_reducible refine vp_in_nI ?_ ?_) <;> first | omega | decide))); (conv => whnf))
      | (refine And.intro (by first | with_reducible assumption | exact (show cL _ _ = _ from rfl) | decide) ?_; (conv => whnf))
      | ((with_reducible refine @And.intro (_ = _) _ ?_ ?_); (· rfl); (conv => whnf))
      | ((with_reducible refine @And.intro (@LE.le Nat _ _ _) _ ?_ ?_); (· (first | exact Nat.zero_le _ | exact Nat.le_of_ble_eq_true rfl | omega)); (conv => whnf))
      | ((with_reducible refine @And.intro (@LT.lt Nat _ _ _) _ ?_ ?_); (· omega); (conv => whnf))
      | ((with_reducible refine @And.intro (∃ _, _ = _) _ ?_ ?_); (· exact ⟨_, rfl⟩); (conv => whnf))
      | ((with_reducible refine @And.intro (_ ∨ _) _ ?_ ?_); (· (first | exact Or.inl rfl | exact Or.inr rfl | exact t_b01 _ | assumption)); (conv => whnf))
      | ((with_reducible refine @And.intro (¬ (_ = _)) _ ?_ ?_); (· first | assumption | (with_reducible assumption)); (conv => whnf))
      | (refine hX _ _ _ _ _ _ ?_; (conv => whnf); fail_if_success show False)
      | (rw [c_si]; (conv => whnf))
      | (refine ⟨_, rfl, ?_⟩; (conv => whnf))
      | (refine ⟨_, _, rfl, ?_⟩; (conv => whnf))
      | (refine ⟨_, _, _, rfl, ?_⟩; (conv => whnf))
      | (refine ⟨_, _, _, _, rfl, ?_⟩; (conv => whnf))
      | fail)
    refine And.intro (fun c => ?_) (fun c => ?_) <;> (conv => whnf)
    · have : k = m := Nat.le_antisymm h1 (t_kge rfl c (by omega) (by omega))
      subst this
      have fin := hQ J hJ hts hA
      clear ih
      repeat' (first
        | ((with_reducible refine @And.intro (vp_in _ _) _ ?_ ?_); (· (first | with_reducible assumption | ((with_reducible refine t_vin ?_); decide) | ((with_reducible refine vp_in_nI ?_ ?_) <;> first | omega | decide) | (simp (disch := omega) only [xl_n, xl_m, nI_dec, nI_sb, nI_add, pk_mul]; (with_reducible refine vp_in_nI ?_ ?_) <;> first | omega | decide))); (conv => whnf))
        | (refine And.intro (by first | with_reducible assumption | exact (show cL _ _ = _ from rfl) | decide) ?_; (conv => whnf))
        | ((with_reducible refine @And.intro (_ = _) _ ?_ ?_); (· rfl); (conv => whnf))
        | ((with_reducible refine @And.intro (@LE.le Nat _ _ _) _ ?_ ?_); (· (first | exact Nat.zero_le _ | exact Nat.le_of_ble_eq_true rfl | omega)); (conv => whnf))
        | ((with_reducible refine @And.intro (@LT.lt Nat _ _ _) _ ?_ ?_); (· omega); (conv => whnf))
        | ((with_reducible refine @And.intro (∃ _, _ = _) _ ?_ ?_); (· exact ⟨_, rfl⟩); (conv => whnf))
        | ((with_reducible refine @And.intro (_ ∨ _) _ ?_ ?_); (· (first | exact Or.inl rfl | exact Or.inr rfl | exact t_b01 _ | assumption)); (conv => whnf))
        | ((with_reducible refine @And.intro (¬ (_ = _)) _ ?_ ?_); (· first | assumption | (with_reducible assumption)); (conv => whnf))
        | (refine hX _ _ _ _ _ _ ?_; (conv => whnf); fail_if_success show False)
        | (rw [c_si]; (conv => whnf))
        | (refine ⟨_, rfl, ?_⟩; (conv => whnf))
        | (refine ⟨_, _, rfl, ?_⟩; (conv => whnf))
        | (refine ⟨_, _, _, rfl, ?_⟩; (conv => whnf))
        | (refine ⟨_, _, _, _, rfl, ?_⟩; (conv => whnf))
        | (refine And.intro (fun c => ?_) (fun c => ?_) <;> (first | (exact absurd c (by decide +kernel)) | (conv => whnf)))
        | fail)
      exact fin
    · have hk : k < m := t_klt rfl c (by omega)
      have ih := ih (by omega)
      have hnk : n + k < 100000 := by omega
      repeat' (first
        | ((with_reducible refine @And.intro (vp_in _ _) _ ?_ ?_); (· (first | with_reducible assumption | ((with_reducible refine t_vin ?_); decide) | ((with_reducible refine vp_in_nI ?_ ?_) <;> first | omega | decide) | (simp (disch := omega) only [xl_n, xl_m, nI_dec, nI_sb, nI_add, pk_mul]; (with_reducible refine vp_in_nI ?_ ?_) <;> first | omega | decide))); (conv => whnf))
        | (refine And.intro (by first | with_reducible assumption | exact (show cL _ _ = _ from rfl) | decide) ?_; (conv => whnf))
        | ((with_reducible refine @And.intro (_ = _) _ ?_ ?_); (· rfl); (conv => whnf))
        | ((with_reducible refine @And.intro (@LE.le Nat _ _ _) _ ?_ ?_); (· (first | exact Nat.zero_le _ | exact Nat.le_of_ble_eq_true rfl | omega)); (conv => whnf))
        | ((with_reducible refine @And.intro (@LT.lt Nat _ _ _) _ ?_ ?_); (· omega); (conv => whnf))
        | ((with_reducible refine @And.intro (∃ _, _ = _) _ ?_ ?_); (· exact ⟨_, rfl⟩); (conv => whnf))
        | ((with_reducible refine @And.intro (_ ∨ _) _ ?_ ?_); (· (first | exact Or.inl rfl | exact Or.inr rfl | exact t_b01 _ | assumption)); (conv => whnf))
        | ((with_reducible refine @And.intro (¬ (_ = _)) _ ?_ ?_); (· first | assumption | (with_reducible assumption)); (conv => whnf))
        | (refine hX _ _ _ _ _ _ ?_; (conv => whnf); fail_if_success show False)
        | (rw [c_si]; (conv => whnf))
        | (refine ⟨_, rfl, ?_⟩; (conv => whnf))
        | (refine ⟨_, _, rfl, ?_⟩; (conv => whnf))
        | (refine ⟨_, _, _, rfl, ?_⟩; (conv => whnf))
        | (refine ⟨_, _, _, _, rfl, ?_⟩; (conv => whnf))
        | (refine ⟨r,L,n+k,rfl,hts,hyJ,hnk,?_⟩; (conv => whnf))
        | (rw [c_tl hr]; (conv => whnf))
        | (rw [c_t7 hr]; (conv => whnf))
        | (rw [c_tf hr (by decide)]; (conv => whnf))
        | (rw [c_t0 hr]; (conv => whnf))
        | (rw [c_t1 hr]; (conv => whnf))
        | (rw [c_t2 hr]; (conv => whnf))
        | (rw [c_t3 hr]; (conv => whnf))
        | (rw [c_t4 hr]; (conv => whnf))
        | (rw [c_t5 hr]; (conv => whnf))
        | (refine And.intro ⟨_, c_tl hr⟩ ?_; (conv => whnf))
        | (refine And.intro (fun c => ?_) (fun c => ?_) <;> (first | (exact absurd c (by decide +kernel)) | (conv => whnf)))
        | fail)
      intro N hN hNt hNA
      have fin := ih N (hJ.tr hN) hNt (by rw [hNA, hJ.K hr, hA, g_gos_s])
      clear ih
      (conv => whnf)
      repeat' (first
        | ((with_reducible refine @And.intro (vp_in _ _) _ ?_ ?_); (· (first | with_reducible assumption | ((with_reducible refine t_vin ?_); decide) | ((with_reducible refine vp_in_nI ?_ ?_) <;> first | omega | decide) | (simp (disch := omega) only [xl_n, xl_m, nI_dec, nI_sb, nI_add, pk_mul]; (with_reducible refine vp_in_nI ?_ ?_) <;> first | omega | decide))); (conv => whnf))
        | (refine And.intro (by first | with_reducible assumption | exact (show cL _ _ = _ from rfl) | decide) ?_; (conv => whnf))
        | ((with_reducible refine @And.intro (_ = _) _ ?_ ?_); (· rfl); (conv => whnf))
        | ((with_reducible refine @And.intro (@LE.le Nat _ _ _) _ ?_ ?_); (· (first | exact Nat.zero_le _ | exact Nat.le_of_ble_eq_true rfl | omega)); (conv => whnf))
        | ((with_reducible refine @And.intro (@LT.lt Nat _ _ _) _ ?_ ?_); (· omega); (conv => whnf))
        | ((with_reducible refine @And.intro (∃ _, _ = _) _ ?_ ?_); (· exact ⟨_, rfl⟩); (conv => whnf))
        | ((with_reducible refine @And.intro (_ ∨ _) _ ?_ ?_); (· (first | exact Or.inl rfl | exact Or.inr rfl | exact t_b01 _ | assumption)); (conv => whnf))
        | ((with_reducible refine @And.intro (¬ (_ = _)) _ ?_ ?_); (· first | assumption | (with_reducible assumption)); (conv => whnf))
        | (refine hX _ _ _ _ _ _ ?_; (conv => whnf); fail_if_success show False)
        | (rw [c_si]; (conv => whnf))
        | (refine ⟨_, rfl, ?_⟩; (conv => whnf))
        | (refine ⟨_, _, rfl, ?_⟩; (conv => whnf))
        | (refine ⟨_, _, _, rfl, ?_⟩; (conv => whnf))
        | (refine ⟨_, _, _, _, rfl, ?_⟩; (conv => whnf))
        | (refine And.intro (fun c => ?_) (fun c => ?_) <;> (first | (exact absurd c (by decide +kernel)) | (conv => whnf)))
        | fail)
      clear hX hG
      simp (disch := omega) only [xl_n, xl_m, nI_dec, nI_sb, xl_0, xl_1, cW_i, Nat.add_zero, Nat.reduceAdd, Nat.reduceMul, t_bn0, t_bn1, Classical.not_not, t_lt, nI_add, nI_1, pk_mul, nI_clamp, c_si, nI_eq, nI_leI, nM_ne, nM_ne, xm_set] at *
      exact fin
  have fin := loop 0 (Nat.zero_le _) I c_sc.rf ht rfl
  clear loop
  refine ⟨rfl, ?_⟩
  repeat' (first
    | ((with_reducible refine @And.intro (vp_in _ _) _ ?_ ?_); (· (first | with_reducible assumption | ((with_reducible refine t_vin ?_); decide) | ((with_reducible refine vp_in_nI ?_ ?_) <;> first | omega | decide) | (simp (disch := omega) only [xl_n, xl_m, nI_dec, nI_sb, nI_add, pk_mul]; (with_reducible refine vp_in_nI ?_ ?_) <;> first | omega | decide))); (conv => whnf))
    | (refine And.intro (by first | with_reducible assumption | exact (show cL _ _ = _ from rfl) | decide) ?_; (conv => whnf))
    | ((with_reducible refine @And.intro (_ = _) _ ?_ ?_); (· rfl); (conv => whnf))
    | ((with_reducible refine @And.intro (@LE.le Nat _ _ _) _ ?_ ?_); (· (first | exact Nat.zero_le _ | exact Nat.le_of_ble_eq_true rfl | omega)); (conv => whnf))
    | ((with_reducible refine @And.intro (@LT.lt Nat _ _ _) _ ?_ ?_); (· omega); (conv => whnf))
    | ((with_reducible refine @And.intro (∃ _, _ = _) _ ?_ ?_); (· exact ⟨_, rfl⟩); (conv => whnf))
    | ((with_reducible refine @And.intro (_ ∨ _) _ ?_ ?_); (· (first | exact Or.inl rfl | exact Or.inr rfl | exact t_b01 _ | assumption)); (conv => whnf))
    | ((with_reducible refine @And.intro (¬ (_ = _)) _ ?_ ?_); (· first | assumption | (with_reducible assumption)); (conv => whnf))
    | (refine hX _ _ _ _ _ _ ?_; (conv => whnf); fail_if_success show False)
    | (rw [c_si]; (conv => whnf))
    | (refine ⟨_, rfl, ?_⟩; (conv => whnf))
    | (refine ⟨_, _, rfl, ?_⟩; (conv => whnf))
    | (refine ⟨_, _, _, rfl, ?_⟩; (conv => whnf))
    | (refine ⟨_, _, _, _, rfl, ?_⟩; (conv => whnf))
    | (refine And.intro (fun c => ?_) (fun c => ?_) <;> (first | (exact absurd c (by decide +kernel)) | (conv => whnf)))
    | fail)
  exact fin
theorem ct_X10_goes_2 : xm_Ct cI yX10_goes_2 (ws_ yX10_goes_2 cX10_goes_2 3 (some (.object "PuppetHeirs$Troupe"))) 164 0 0 S_X10_goes_2 := xm_enter (rt := 3) (init := false) (by decide +kernel) rfl (fun h => by cases h) (Or.inr (Or.inr (Or.inr (Or.inl ⟨rfl, Or.inl ⟨_, rfl⟩⟩)))) (oX10_goes_2) body_X10_goes_2
theorem cv_X10_goes_2 {own : String} {cc : ByteArray} {fr pc idx : Nat} (hdg : decode cc pc = .ok (.invokevirtual idx, 3)) (hl : xm_ml own idx yX10_goes_2) (hfr : 164 < fr) : xm_CallOK cI own cc fr pc (pc + 3) 2 0 0 (xm_this 7 S_X10_goes_2) := xm_callV 7 cI_good (ct_X10_goes_2) hdg hl q1654 q1655 q144 q1656 rfl rfl (by decide +kernel) hfr (by decide)
/-! one becomes another -/
def c_ua (I : tI) (d : Nat) (f : Nat → Int32) : tI := fun b j => if b = d then f j else I b j
theorem c_sa {P : cP} {Z : cX} {I : tI} {d : Nat} {f : Nat → Int32} : xm_sa (cW P Z I) d f = cW P Z (c_ua I d f) := rfl
def c_cp (I : tI) (r s k n : Nat) : tI := c_ua I (10 * r + k) (va_cpy (I (10 * s + k)) (I (10 * r + k)) 0 0 n)
theorem c_cp_ne {I : tI} {r s k n b : Nat} (h : b ≠ 10 * r + k) : c_cp I r s k n b = I b := funext fun j => if_neg h
theorem c_cp_at {I : tI} {r s k n j : Nat} (h : j < n) : c_cp I r s k n (10 * r + k) j = I (10 * s + k) j := by
  show (if _ = _ then _ else _) = _
  rw [if_pos rfl, pk_cpy_in (Nat.zero_le _) (by omega)]
  congr 1
  omega
theorem cA_cp {I J : tI} {r s : Nat} (h0 : ∀ j, j < 9 → J (10 * r) j = I (10 * s) j) (h1 : ∀ j, j < 8 → J (10 * r + 1) j = I (10 * s + 1) j) (h2 : ∀ j, j < 8 → J (10 * r + 2) j = I (10 * s + 2) j) (h3 : ∀ j, j < 8 → J (10 * r + 3) j = I (10 * s + 3) j) (h4 : ∀ j, j < 72 → J (10 * r + 4) j = I (10 * s + 4) j) (h5 : ∀ j, j < 9 → J (10 * r + 5) j = I (10 * s + 5) j) (h6 : J r 6 = I s 6) : cA J r = cA I s := by
  refine g_ext (fun q => ?_) (fun q => ?_) (fun q => ?_) (fun a q => ?_) (fun a => ?_) (fun a => ?_) h6
  · show (if q < 8 then _ else _) = if q < 8 then _ else _
    split
    · exact h1 q (by assumption)
    · rfl
  · show (if q < 8 then _ else _) = if q < 8 then _ else _
    split
    · exact h3 q (by assumption)
    · rfl
  · show (if q < 8 then _ else _) = if q < 8 then _ else _
    split
    · exact h2 q (by assumption)
    · rfl
  · show (if a < 9 ∧ q < 8 then _ else _) = if a < 9 ∧ q < 8 then _ else _
    split
    · exact h4 _ (by omega)
    · rfl
  · show (if a < 9 then _ else _) = if a < 9 then _ else _
    split
    · exact h5 a (by assumption)
    · rfl
  · show (if a < 9 then _ else _) = if a < 9 then _ else _
    split
    · rw [h0 a (by assumption)]
    · rfl
abbrev bX10_becomes_0 : List xE := [(.aload_n 1, 1, 0, 0, 0), (.getfield 15, 4, 7, 0, 1), (.iconst 0, 5, 0, 0, 0), (.aload_n 0, 6, 0, 0, 0), (.getfield 15, 9, 7, 0, 1), (.iconst 0, 10, 0, 0, 0), (.bipush 9, 12, 0, 0, 0), (.invokestatic 58, 15, 0, 0, 9), (.aload_n 1, 16, 0, 0, 0), (.getfield 19, 19, 7, 1, 1), (.iconst 0, 20, 0, 0, 0), (.aload_n 0, 21, 0, 0, 0), (.getfield 19, 24, 7, 1, 1), (.iconst 0, 25, 0, 0, 0), (.bipush 8, 27, 0, 0, 0), (.invokestatic 58, 30, 0, 0, 9), (.aload_n 1, 31, 0, 0, 0), (.getfield 22, 34, 7, 2, 1), (.iconst 0, 35, 0, 0, 0), (.aload_n 0, 36, 0, 0, 0), (.getfield 22, 39, 7, 2, 1), (.iconst 0, 40, 0, 0, 0), (.bipush 8, 42, 0, 0, 0), (.invokestatic 58, 45, 0, 0, 9), (.aload_n 1, 46, 0, 0, 0), (.getfield 25, 49, 7, 3, 1), (.iconst 0, 50, 0, 0, 0), (.aload_n 0, 51, 0, 0, 0), (.getfield 25, 54, 7, 3, 1), (.iconst 0, 55, 0, 0, 0), (.bipush 8, 57, 0, 0, 0), (.invokestatic 58, 60, 0, 0, 9), (.aload_n 1, 61, 0, 0, 0), (.getfield 28, 64, 7, 4, 1), (.iconst 0, 65, 0, 0, 0), (.aload_n 0, 66, 0, 0, 0), (.getfield 28, 69, 7, 4, 1), (.iconst 0, 70, 0, 0, 0), (.bipush 72, 72, 0, 0, 0), (.invokestatic 58, 75, 0, 0, 9), (.aload_n 1, 76, 0, 0, 0), (.getfield 31, 79, 7, 5, 1), (.iconst 0, 80, 0, 0, 0), (.aload_n 0, 81, 0, 0, 0), (.getfield 31, 84, 7, 5, 1), (.iconst 0, 85, 0, 0, 0), (.bipush 9, 87, 0, 0, 0), (.invokestatic 58, 90, 0, 0, 9), (.aload_n 0, 91, 0, 0, 0), (.aload_n 1, 92, 0, 0, 0), (.getfield 34, 95, 7, 6, 0), (.putfield 34, 98, 7, 6, 0), (.aload_n 0, 99, 0, 0, 0), (.areturn, 100, 0, 0, 0)]
abbrev kX10_becomes : List (Nat × List xE) := [(0, bX10_becomes_0)]
abbrev lX10_becomes : List (Nat × Nat × Nat × xS) := [(5, 0, 0, S_acp)]
theorem oX10_becomes_0  : xm_okb cI RX10 cX10_becomes false 2 lX10_becomes bX10_becomes_0 0 := xo_0 dX10_becomes_0 rfl trivial (xo_1 dX10_becomes_1 rfl (xm_fg_of (Or.inl q662) (by decide) rfl (by decide) rfl rfl (Or.inl rfl) rfl) (xo_0 dX10_becomes_4 rfl trivial (xo_0 dX10_becomes_5 rfl trivial (xo_1 dX10_becomes_6 rfl (xm_fg_of (Or.inl q662) (by decide) rfl (by decide) rfl rfl (Or.inl rfl) rfl) (xo_0 dX10_becomes_9 rfl trivial (xo_0 dX10_becomes_10 rfl (xo_bipush (by decide +kernel)) (xo_c rfl (xc_acp dX10_becomes_12 q715 (by decide)) (xo_0 dX10_becomes_15 rfl trivial (xo_1 dX10_becomes_16 rfl (xm_fg_of (Or.inl q664) (by decide) rfl (by decide) rfl rfl (Or.inl rfl) rfl) (xo_0 dX10_becomes_19 rfl trivial (xo_0 dX10_becomes_20 rfl trivial (xo_1 dX10_becomes_21 rfl (xm_fg_of (Or.inl q664) (by decide) rfl (by decide) rfl rfl (Or.inl rfl) rfl) (xo_0 dX10_becomes_24 rfl trivial (xo_0 dX10_becomes_25 rfl (xo_bipush (by decide +kernel)) (xo_c rfl (xc_acp dX10_becomes_27 q715 (by decide)) (xo_0 dX10_becomes_30 rfl trivial (xo_1 dX10_becomes_31 rfl (xm_fg_of (Or.inl q666) (by decide) rfl (by decide) rfl rfl (Or.inl rfl) rfl) (xo_0 dX10_becomes_34 rfl trivial (xo_0 dX10_becomes_35 rfl trivial (xo_1 dX10_becomes_36 rfl (xm_fg_of (Or.inl q666) (by decide) rfl (by decide) rfl rfl (Or.inl rfl) rfl) (xo_0 dX10_becomes_39 rfl trivial (xo_0 dX10_becomes_40 rfl (xo_bipush (by decide +kernel)) (xo_c rfl (xc_acp dX10_becomes_42 q715 (by decide)) (xo_0 dX10_becomes_45 rfl trivial (xo_1 dX10_becomes_46 rfl (xm_fg_of (Or.inl q668) (by decide) rfl (by decide) rfl rfl (Or.inl rfl) rfl) (xo_0 dX10_becomes_49 rfl trivial (xo_0 dX10_becomes_50 rfl trivial (xo_1 dX10_becomes_51 rfl (xm_fg_of (Or.inl q668) (by decide) rfl (by decide) rfl rfl (Or.inl rfl) rfl) (xo_0 dX10_becomes_54 rfl trivial (xo_0 dX10_becomes_55 rfl (xo_bipush (by decide +kernel)) (xo_c rfl (xc_acp dX10_becomes_57 q715 (by decide)) (xo_0 dX10_becomes_60 rfl trivial (xo_1 dX10_becomes_61 rfl (xm_fg_of (Or.inl q670) (by decide) rfl (by decide) rfl rfl (Or.inl rfl) rfl) (xo_0 dX10_becomes_64 rfl trivial (xo_0 dX10_becomes_65 rfl trivial (xo_1 dX10_becomes_66 rfl (xm_fg_of (Or.inl q670) (by decide) rfl (by decide) rfl rfl (Or.inl rfl) rfl) (xo_0 dX10_becomes_69 rfl trivial (xo_0 dX10_becomes_70 rfl (xo_bipush (by decide +kernel)) (xo_c rfl (xc_acp dX10_becomes_72 q715 (by decide)) (xo_0 dX10_becomes_75 rfl trivial (xo_1 dX10_becomes_76 rfl (xm_fg_of (Or.inl q672) (by decide) rfl (by decide) rfl rfl (Or.inl rfl) rfl) (xo_0 dX10_becomes_79 rfl trivial (xo_0 dX10_becomes_80 rfl trivial (xo_1 dX10_becomes_81 rfl (xm_fg_of (Or.inl q672) (by decide) rfl (by decide) rfl rfl (Or.inl rfl) rfl) (xo_0 dX10_becomes_84 rfl trivial (xo_0 dX10_becomes_85 rfl (xo_bipush (by decide +kernel)) (xo_c rfl (xc_acp dX10_becomes_87 q715 (by decide)) (xo_0 dX10_becomes_90 rfl trivial (xo_0 dX10_becomes_91 rfl trivial (xo_0 dX10_becomes_92 rfl (xm_fg_of (Or.inl q674) (by decide) rfl (by decide) rfl rfl (Or.inl rfl) rfl) (xo_0 dX10_becomes_95 rfl (xm_fp_of (xm_fg_of (Or.inl q674) (by decide) rfl (by decide) rfl rfl (Or.inl rfl) rfl) (by decide) rfl (Or.inl ⟨rfl, rfl⟩) rfl) (xo_0 dX10_becomes_98 rfl trivial (xo_0 dX10_becomes_99 rfl trivial (xo_n))))))))))))))))))))))))))))))))))))))))))))))))))))))
theorem oX10_becomes  : ∀ q ∈ kX10_becomes, xm_okb cI RX10 cX10_becomes false 2 lX10_becomes q.2 q.1 := by
  intro q hq
  simp only [List.mem_cons, List.not_mem_nil, or_false] at hq
  subst hq
  exact oX10_becomes_0  
def S_X10_becomes : xS := cU fun as P X I Q QX => ∃ (r s : Nat) (L : List lC), as = [.ref r, .ref s] ∧ c_tr P r ∧ c_ts P X I s L ∧ ∀ J, c_sc r I J → c_ts P X J r L → cA J r = cA I s → Q (some (.ref r)) J
theorem body_X10_becomes : xm_Body 2 3 0 0 [] lX10_becomes kX10_becomes S_X10_becomes := by
  intro X avs w Q QX hX0 hS
  have hG := xm_go [] hX0
  have hX := xm_go [] hX0
  clear hX0
  obtain ⟨P, Z, I, rfl, r, s, L, rfl, hr, ht, hQ⟩ := hS
  have hs := ht.1
  have hrn := hr.ne
  have hsn := hs.ne
  have fin : Q (some (.ref r)) (cW P Z (xm_u2 (c_cp (c_cp (c_cp (c_cp (c_cp (c_cp I r s 0 9) r s 1 8) r s 2 8) r s 3 8) r s 4 72) r s 5 9) r 6 (c_cp (c_cp (c_cp (c_cp (c_cp (c_cp I r s 0 9) r s 1 8) r s 2 8) r s 3 8) r s 4 72) r s 5 9 s 6))) := by
    obtain ⟨J, eJ⟩ : ∃ J, J = xm_u2 (c_cp (c_cp (c_cp (c_cp (c_cp (c_cp I r s 0 9) r s 1 8) r s 2 8) r s 3 8) r s 4 72) r s 5 9) r 6 (c_cp (c_cp (c_cp (c_cp (c_cp (c_cp I r s 0 9) r s 1 8) r s 2 8) r s 3 8) r s 4 72) r s 5 9 s 6) := ⟨_, rfl⟩
    rw [← eJ]
    have hb : ∀ b : Nat, b ≠ r → ¬ (10 * r ≤ b ∧ b < 10 * r + 6) → J b = I b := fun b h1 h2 => by
      rw [eJ]
      have n : ∀ k : Nat, k < 6 → b ≠ 10 * r + k := fun k hk e => by
        exact h2 (by omega)
      refine (funext fun j => xm_u2_ne h1 j).trans ?_
      rw [c_cp_ne (n 5 (by decide)), c_cp_ne (n 4 (by decide)), c_cp_ne (n 3 (by decide)), c_cp_ne (n 2 (by decide)), c_cp_ne (n 1 (by decide)), c_cp_ne (n 0 (by decide))]
    have hsc : c_sc r I J := fun b _ h2 h3 => hb b h2 h3
    have h6 : J r 6 = I s 6 := by
      rw [eJ, xm_u2_at, if_pos rfl, c_cp_ne (by omega), c_cp_ne (by omega), c_cp_ne (by omega), c_cp_ne (by omega), c_cp_ne (by omega), c_cp_ne (by omega)]
    have h0 : ∀ j, j < 9 → J (10 * r) j = I (10 * s) j := fun j hj => by
      rw [eJ, xm_u2_ne (by omega), c_cp_ne (by omega), c_cp_ne (by omega), c_cp_ne (by omega), c_cp_ne (by omega), c_cp_ne (by omega)]
      exact c_cp_at (k := 0) hj
    have eA : cA J r = cA I s := by
      refine cA_cp h0 (fun j hj => ?_) (fun j hj => ?_) (fun j hj => ?_) (fun j hj => ?_) (fun j hj => ?_) h6
      · rw [eJ, xm_u2_ne (by omega), c_cp_ne (by omega), c_cp_ne (by omega), c_cp_ne (by omega), c_cp_ne (by omega), c_cp_at hj, c_cp_ne (by omega)]
      · rw [eJ, xm_u2_ne (by omega), c_cp_ne (by omega), c_cp_ne (by omega), c_cp_ne (by omega), c_cp_at hj, c_cp_ne (by omega), c_cp_ne (by omega)]
      · rw [eJ, xm_u2_ne (by omega), c_cp_ne (by omega), c_cp_ne (by omega), c_cp_at hj, c_cp_ne (by omega), c_cp_ne (by omega), c_cp_ne (by omega)]
      · rw [eJ, xm_u2_ne (by omega), c_cp_ne (by omega), c_cp_at hj, c_cp_ne (by omega), c_cp_ne (by omega), c_cp_ne (by omega), c_cp_ne (by omega)]
      · rw [eJ, xm_u2_ne (by omega), c_cp_at hj, c_cp_ne (by omega), c_cp_ne (by omega), c_cp_ne (by omega), c_cp_ne (by omega), c_cp_ne (by omega)]
    refine hQ J hsc ⟨hr, hsc.ok hr ht.2.1, fun j hj => ?_, by rw [eA]; exact ht.2.2.2.1, hsc.lw hr ht.2.2.2.2⟩ eA
    rw [(hsc.h hr).1] at hj
    have h9 := ht.2.1.2.1
    rw [eA, h0 j (by omega), h6, hsc 31 (by decide) (by omega) (by omega)]
    exact ht.2.2.1 j hj
  clear hQ
  refine ⟨rfl, ?_⟩
  repeat' (first
    | (rw [c_sa]; (conv => whnf))
    | (rw [c_t0 hs]; (conv => whnf))
    | (rw [c_t1 hs]; (conv => whnf))
    | (rw [c_t2 hs]; (conv => whnf))
    | (rw [c_t3 hs]; (conv => whnf))
    | (rw [c_t4 hs]; (conv => whnf))
    | (rw [c_t5 hs]; (conv => whnf))
    | (refine ⟨10*s+0,10*r+0,0,0,9,9,9,rfl,c_t0 hs,c_t0 hr,(by decide),(by decide),(by decide),(by decide),?_⟩; (conv => whnf))
    | (refine ⟨10*s+1,10*r+1,0,0,8,8,8,rfl,c_t1 hs,c_t1 hr,(by decide),(by decide),(by decide),(by decide),?_⟩; (conv => whnf))
    | (refine ⟨10*s+2,10*r+2,0,0,8,8,8,rfl,c_t2 hs,c_t2 hr,(by decide),(by decide),(by decide),(by decide),?_⟩; (conv => whnf))
    | (refine ⟨10*s+3,10*r+3,0,0,8,8,8,rfl,c_t3 hs,c_t3 hr,(by decide),(by decide),(by decide),(by decide),?_⟩; (conv => whnf))
    | (refine ⟨10*s+4,10*r+4,0,0,72,72,72,rfl,c_t4 hs,c_t4 hr,(by decide),(by decide),(by decide),(by decide),?_⟩; (conv => whnf))
    | (refine ⟨10*s+5,10*r+5,0,0,9,9,9,rfl,c_t5 hs,c_t5 hr,(by decide),(by decide),(by decide),(by decide),?_⟩; (conv => whnf))
    | ((with_reducible refine @And.intro (vp_in _ _) _ ?_ ?_); (· (first | with_reducible assumption | ((with_reducible refine t_vin ?_); decide) | ((with_reducible refine vp_in_nI ?_ ?_) <;> first | omega | decide) | (simp (disch := omega) only [xl_n, xl_m, nI_dec, nI_sb, nI_add, pk_mul]; (with_reducible refine vp_in_nI ?_ ?_) <;> first | omega | decide))); (conv => whnf))
    | (refine And.intro (by first | with_reducible assumption | exact (show cL _ _ = _ from rfl) | decide) ?_; (conv => whnf))
    | ((with_reducible refine @And.intro (_ = _) _ ?_ ?_); (· rfl); (conv => whnf))
    | ((with_reducible refine @And.intro (@LE.le Nat _ _ _) _ ?_ ?_); (· (first | exact Nat.zero_le _ | exact Nat.le_of_ble_eq_true rfl | omega)); (conv => whnf))
    | ((with_reducible refine @And.intro (@LT.lt Nat _ _ _) _ ?_ ?_); (· omega); (conv => whnf))
    | ((with_reducible refine @And.intro (∃ _, _ = _) _ ?_ ?_); (· exact ⟨_, rfl⟩); (conv => whnf))
    | ((with_reducible refine @And.intro (_ ∨ _) _ ?_ ?_); (· (first | exact Or.inl rfl | exact Or.inr rfl | exact t_b01 _ | assumption)); (conv => whnf))
    | ((with_reducible refine @And.intro (¬ (_ = _)) _ ?_ ?_); (· first | assumption | (with_reducible assumption)); (conv => whnf))
    | (refine hX _ _ _ _ _ _ ?_; (conv => whnf); fail_if_success show False)
    | (rw [c_si]; (conv => whnf))
    | (refine ⟨_, rfl, ?_⟩; (conv => whnf))
    | (refine ⟨_, _, rfl, ?_⟩; (conv => whnf))
    | (refine ⟨_, _, _, rfl, ?_⟩; (conv => whnf))
    | (refine ⟨_, _, _, _, rfl, ?_⟩; (conv => whnf))
    | (rw [c_tl hr]; (conv => whnf))
    | (rw [c_t7 hr]; (conv => whnf))
    | (rw [c_tf hr (by decide)]; (conv => whnf))
    | (rw [c_t0 hr]; (conv => whnf))
    | (rw [c_t1 hr]; (conv => whnf))
    | (rw [c_t2 hr]; (conv => whnf))
    | (rw [c_t3 hr]; (conv => whnf))
    | (rw [c_t4 hr]; (conv => whnf))
    | (rw [c_t5 hr]; (conv => whnf))
    | (refine And.intro ⟨_, c_tl hr⟩ ?_; (conv => whnf))
    | (rw [c_tl hs]; (conv => whnf))
    | (rw [c_t7 hs]; (conv => whnf))
    | (rw [c_tf hs (by decide)]; (conv => whnf))
    | (rw [c_t0 hs]; (conv => whnf))
    | (rw [c_t1 hs]; (conv => whnf))
    | (rw [c_t2 hs]; (conv => whnf))
    | (rw [c_t3 hs]; (conv => whnf))
    | (rw [c_t4 hs]; (conv => whnf))
    | (rw [c_t5 hs]; (conv => whnf))
    | (refine And.intro ⟨_, c_tl hs⟩ ?_; (conv => whnf))
    | fail)
  exact fin
theorem ct_X10_becomes : xm_Ct cI yX10_becomes (ws_ yX10_becomes cX10_becomes 2 (some (.object "PuppetHeirs$Troupe"))) 2 0 0 S_X10_becomes := xm_enter (rt := 3) (init := false) (by decide +kernel) rfl (fun h => by cases h) (Or.inr (Or.inr (Or.inr (Or.inl ⟨rfl, Or.inl ⟨_, rfl⟩⟩)))) (oX10_becomes) body_X10_becomes
theorem cv_X10_becomes {own : String} {cc : ByteArray} {fr pc idx : Nat} (hdg : decode cc pc = .ok (.invokevirtual idx, 3)) (hl : xm_ml own idx yX10_becomes) (hfr : 2 < fr) : xm_CallOK cI own cc fr pc (pc + 3) 2 0 0 (xm_this 7 S_X10_becomes) := xm_callV 7 cI_good (ct_X10_becomes) hdg hl q712 q713 q144 q714 rfl rfl (by decide +kernel) hfr (by decide)
