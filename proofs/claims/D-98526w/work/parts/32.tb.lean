/-! ===== the reference's rows: who is alive, who works what, whom a puppet chooses ===== -/
set_option maxRecDepth 100000
abbrev bX11_isAlive_0 : List xE := [(.aload_n 0, 1, 0, 0, 0), (.getfield 49, 4, 8, 20, 1), (.iload_n 2, 5, 0, 0, 0), (.aaload, 6, 0, 0, 0), (.iconst 1, 7, 0, 0, 0), (.iaload, 8, 0, 0, 0), (.aload_n 1, 9, 0, 0, 0), (.bipush 106, 11, 0, 0, 0), (.iaload, 12, 0, 0, 0), (.if_icmp .gt 17, 15, 0, 29, 0), (.aload_n 1, 16, 0, 0, 0), (.iconst 0, 17, 0, 0, 0), (.iaload, 18, 0, 0, 0), (.iload_n 2, 19, 0, 0, 0), (.invokestatic 242, 22, 0, 0, 9), (.ifCond .ne 7, 25, 0, 29, 0), (.iconst 1, 26, 0, 0, 0), (.goto 4, 29, 0, 30, 0)]
abbrev bX11_isAlive_29 : List xE := [(.iconst 0, 30, 0, 0, 0)]
abbrev bX11_isAlive_30 : List xE := [(.ireturn, 31, 0, 0, 0)]
abbrev kX11_isAlive : List (Nat × List xE) := [(0, bX11_isAlive_0), (29, bX11_isAlive_29), (30, bX11_isAlive_30)]
abbrev lX11_isAlive : List (Nat × Nat × Nat × xS) := [(2, 0, 0, S_X11_has)]
theorem oX11_isAlive_0 {Iv : xI} (hI : xm_good Iv)  : xm_okb Iv RX11 cX11_isAlive false 2 lX11_isAlive bX11_isAlive_0 0 := xo_0 dX11_isAlive_0 rfl trivial (xo_1 dX11_isAlive_1 rfl (xm_fg_of (Or.inl q1975) (by decide) rfl (by decide) rfl rfl (Or.inl rfl) rfl) (xo_0 dX11_isAlive_4 rfl trivial (xo_0 dX11_isAlive_5 rfl trivial (xo_0 dX11_isAlive_6 rfl trivial (xo_0 dX11_isAlive_7 rfl trivial (xo_0 dX11_isAlive_8 rfl trivial (xo_0 dX11_isAlive_9 rfl (xo_bipush (by decide +kernel)) (xo_0 dX11_isAlive_11 rfl trivial (xo_0 dX11_isAlive_12 rfl rfl (xo_0 dX11_isAlive_15 rfl trivial (xo_0 dX11_isAlive_16 rfl trivial (xo_0 dX11_isAlive_17 rfl trivial (xo_0 dX11_isAlive_18 rfl trivial (xo_c rfl (cv_X11_has hI dX11_isAlive_19 (Or.inl q1945) (by decide)) (xo_0 dX11_isAlive_22 rfl rfl (xo_0 dX11_isAlive_25 rfl trivial (xo_0 dX11_isAlive_26 rfl rfl (xo_n))))))))))))))))))
theorem oX11_isAlive_29 {Iv : xI} (hI : xm_good Iv)  : xm_okb Iv RX11 cX11_isAlive false 2 lX11_isAlive bX11_isAlive_29 29 := xo_0 dX11_isAlive_29 rfl trivial (xo_n)
theorem oX11_isAlive_30 {Iv : xI} (hI : xm_good Iv)  : xm_okb Iv RX11 cX11_isAlive false 2 lX11_isAlive bX11_isAlive_30 30 := xo_0 dX11_isAlive_30 rfl trivial (xo_n)
theorem oX11_isAlive {Iv : xI} (hI : xm_good Iv)  : ∀ q ∈ kX11_isAlive, xm_okb Iv RX11 cX11_isAlive false 2 lX11_isAlive q.2 q.1 := by
  intro q hq
  simp only [List.mem_cons, List.not_mem_nil, or_false] at hq
  rcases hq with rfl | rfl | rfl
  · exact oX11_isAlive_0 hI  
  · exact oX11_isAlive_29 hI  
  · exact oX11_isAlive_30 hI  
def S_X11_isAlive : xS := tU fun as I Q => ∃ row h, as = [.ref 0, .ref row, .int (nI h)] ∧ t_row row ∧ t_ok I ∧ h < t_h I ∧ Q (some (.int (t_b (g_al (tK I) (tA I row) h)))) I
theorem body_X11_isAlive : xm_Body 3 1 0 0 [] lX11_isAlive kX11_isAlive S_X11_isAlive := by
  intro X avs w Q QX hX0 hS
  have hG := xm_go [] hX0
  have hX := xm_go [] hX0
  clear hX0
  obtain ⟨I, rfl, row, h, rfl, hr, hok, hh, hQ⟩ := hS
  have h9 : h < 9 := Nat.lt_of_lt_of_le hh hok.2.1
  refine ⟨rfl, ?_⟩
  repeat' (first
    | ((with_reducible refine @And.intro (vp_in _ _) _ ?_ ?_); (· (first | with_reducible assumption | ((with_reducible refine t_vin ?_); decide) | ((with_reducible refine vp_in_nI ?_ ?_) <;> first | omega | decide) | (simp (disch := omega) only [xl_n, xl_m, nI_dec, nI_sb, nI_add, pk_mul]; (with_reducible refine vp_in_nI ?_ ?_) <;> first | omega | decide))); (conv => whnf))
    | (refine And.intro (by first | with_reducible assumption | exact (show tL _ = _ from rfl) | decide) ?_; (conv => whnf))
    | ((with_reducible refine @And.intro (_ = _) _ ?_ ?_); (· rfl); (conv => whnf))
    | ((with_reducible refine @And.intro (@LE.le Nat _ _ _) _ ?_ ?_); (· (first | exact Nat.zero_le _ | exact Nat.le_of_ble_eq_true rfl | omega)); (conv => whnf))
    | ((with_reducible refine @And.intro (@LT.lt Nat _ _ _) _ ?_ ?_); (· omega); (conv => whnf))
    | ((with_reducible refine @And.intro (∃ _, _ = _) _ ?_ ?_); (· exact ⟨_, rfl⟩); (conv => whnf))
    | ((with_reducible refine @And.intro (_ ∨ _) _ ?_ ?_); (· (first | exact Or.inl rfl | exact Or.inr rfl | exact t_b01 _ | assumption)); (conv => whnf))
    | ((with_reducible refine @And.intro (¬ (_ = _)) _ ?_ ?_); (· first | assumption | (with_reducible assumption)); (conv => whnf))
    | (refine hX _ _ _ _ _ _ ?_; (conv => whnf); fail_if_success show False)
    | (rw [t_si]; (conv => whnf))
    | (refine ⟨_, rfl, ?_⟩; (conv => whnf))
    | (refine ⟨_, _, rfl, ?_⟩; (conv => whnf))
    | (refine ⟨_, _, _, rfl, ?_⟩; (conv => whnf))
    | (refine ⟨_, _, _, _, rfl, ?_⟩; (conv => whnf))
    | (rw [t_lrow hr]; (conv => whnf))
    | (rw [t_l110 (by first | with_reducible assumption | omega | exact vp_lt (by assumption) | (rw [nI_clamp (by omega)]; omega))]; (conv => whnf))
    | (refine And.intro (fun c => ?_) (fun c => ?_) <;> (first | (exact absurd c (by decide +kernel)) | (conv => whnf)))
    | fail)
  all_goals refine t_q hQ ?_
  all_goals clear hX hG
  all_goals simp (disch := omega) only [xl_n, xl_m, nI_dec, nI_sb, xl_0, xl_1, tW_i, t_bn0, t_bn1, Classical.not_not, t_lt, nI_add, nI_1, pk_mul, nI_clamp, t_si, nI_eq, nI_leI, nM_ne, nM_ne] at *
  · simp [*, g_al, gborn, gy, gd, tK, tA, t_bf]
  · simp [*, g_al, gborn, gy, gd, tK, tA, t_bf]
  · simp [*, g_al, gborn, gy, gd, tK, tA, t_bt]
theorem ct_X11_isAlive {Iv : xI} (hI : xm_good Iv) : xm_Ct Iv yX11_isAlive (ws_ yX11_isAlive cX11_isAlive 3 (some .boolean)) 2 0 0 S_X11_isAlive := xm_enter (rt := 1) (init := false) (by decide +kernel) rfl (fun h => by cases h) (Or.inr (Or.inl ⟨rfl, Or.inl rfl⟩)) (oX11_isAlive hI) body_X11_isAlive
theorem cv_X11_isAlive {Iv : xI} {own : String} {cc : ByteArray} {fr pc idx : Nat} (hI : xm_good Iv) (hdg : decode cc pc = .ok (.invokevirtual idx, 3)) (hl : xm_ml own idx yX11_isAlive) (hfr : 2 < fr) : xm_CallOK Iv own cc fr pc (pc + 3) 3 0 0 (xm_this 8 S_X11_isAlive) := xm_callV 8 hI (ct_X11_isAlive hI) hdg hl q2294 qs83 q145 q2295 rfl rfl (by decide +kernel) hfr (by decide)
abbrev bX11_aliveOf_0 : List xE := [(.iconst 0, 1, 0, 0, 0), (.istore_n 2, 2, 0, 0, 0), (.iconst 0, 3, 0, 0, 0), (.istore_n 3, 4, 0, 0, 0)]
abbrev bX11_aliveOf_4 : List xE := [(.iload_n 3, 5, 0, 0, 0), (.aload_n 0, 6, 0, 0, 0), (.getfield 23, 9, 8, 12, 1), (.iconst 0, 10, 0, 0, 0), (.iaload, 11, 0, 0, 0), (.if_icmp .ge 28, 14, 0, 39, 0), (.iload_n 2, 15, 0, 0, 0), (.aload_n 0, 16, 0, 0, 0), (.aload_n 1, 17, 0, 0, 0), (.iload_n 3, 18, 0, 0, 0), (.invokevirtual 320, 21, 0, 0, 9), (.ifCond .eq 9, 24, 0, 30, 0), (.iconst 1, 25, 0, 0, 0), (.iload_n 3, 26, 0, 0, 0), (.ishl, 27, 0, 0, 0), (.goto 4, 30, 0, 31, 0)]
abbrev bX11_aliveOf_30 : List xE := [(.iconst 0, 31, 0, 0, 0)]
abbrev bX11_aliveOf_31 : List xE := [(.ior, 32, 0, 0, 0), (.istore_n 2, 33, 0, 0, 0), (.iinc 3 1, 36, 0, 0, 0), (.goto (-32), 39, 0, 4, 0)]
abbrev bX11_aliveOf_39 : List xE := [(.iload_n 2, 40, 0, 0, 0), (.ireturn, 41, 0, 0, 0)]
abbrev kX11_aliveOf : List (Nat × List xE) := [(0, bX11_aliveOf_0), (4, bX11_aliveOf_4), (30, bX11_aliveOf_30), (31, bX11_aliveOf_31), (39, bX11_aliveOf_39)]
abbrev lX11_aliveOf : List (Nat × Nat × Nat × xS) := [(3, 0, 0, xm_this 8 S_X11_isAlive)]
theorem oX11_aliveOf_0 {Iv : xI} (hI : xm_good Iv)  : xm_okb Iv RX11 cX11_aliveOf false 3 lX11_aliveOf bX11_aliveOf_0 0 := xo_0 dX11_aliveOf_0 rfl trivial (xo_0 dX11_aliveOf_1 rfl trivial (xo_0 dX11_aliveOf_2 rfl trivial (xo_0 dX11_aliveOf_3 rfl trivial (xo_n))))
theorem oX11_aliveOf_4 {Iv : xI} (hI : xm_good Iv)  : xm_okb Iv RX11 cX11_aliveOf false 3 lX11_aliveOf bX11_aliveOf_4 4 := xo_0 dX11_aliveOf_4 rfl trivial (xo_0 dX11_aliveOf_5 rfl trivial (xo_1 dX11_aliveOf_6 rfl (xm_fg_of (Or.inl q1967) (by decide) rfl (by decide) rfl rfl (Or.inl rfl) rfl) (xo_0 dX11_aliveOf_9 rfl trivial (xo_0 dX11_aliveOf_10 rfl trivial (xo_0 dX11_aliveOf_11 rfl rfl (xo_0 dX11_aliveOf_14 rfl trivial (xo_0 dX11_aliveOf_15 rfl trivial (xo_0 dX11_aliveOf_16 rfl trivial (xo_0 dX11_aliveOf_17 rfl trivial (xo_c rfl (cv_X11_isAlive hI dX11_aliveOf_18 (Or.inl q2292) (by decide)) (xo_0 dX11_aliveOf_21 rfl rfl (xo_0 dX11_aliveOf_24 rfl trivial (xo_0 dX11_aliveOf_25 rfl trivial (xo_0 dX11_aliveOf_26 rfl trivial (xo_0 dX11_aliveOf_27 rfl rfl (xo_n))))))))))))))))
theorem oX11_aliveOf_30 {Iv : xI} (hI : xm_good Iv)  : xm_okb Iv RX11 cX11_aliveOf false 3 lX11_aliveOf bX11_aliveOf_30 30 := xo_0 dX11_aliveOf_30 rfl trivial (xo_n)
theorem oX11_aliveOf_31 {Iv : xI} (hI : xm_good Iv)  : xm_okb Iv RX11 cX11_aliveOf false 3 lX11_aliveOf bX11_aliveOf_31 31 := xo_0 dX11_aliveOf_31 rfl trivial (xo_0 dX11_aliveOf_32 rfl trivial (xo_0 dX11_aliveOf_33 rfl trivial (xo_0 dX11_aliveOf_36 rfl rfl (xo_n))))
theorem oX11_aliveOf_39 {Iv : xI} (hI : xm_good Iv)  : xm_okb Iv RX11 cX11_aliveOf false 3 lX11_aliveOf bX11_aliveOf_39 39 := xo_0 dX11_aliveOf_39 rfl trivial (xo_0 dX11_aliveOf_40 rfl trivial (xo_n))
theorem oX11_aliveOf {Iv : xI} (hI : xm_good Iv)  : ∀ q ∈ kX11_aliveOf, xm_okb Iv RX11 cX11_aliveOf false 3 lX11_aliveOf q.2 q.1 := by
  intro q hq
  simp only [List.mem_cons, List.not_mem_nil, or_false] at hq
  rcases hq with rfl | rfl | rfl | rfl | rfl
  · exact oX11_aliveOf_0 hI  
  · exact oX11_aliveOf_4 hI  
  · exact oX11_aliveOf_30 hI  
  · exact oX11_aliveOf_31 hI  
  · exact oX11_aliveOf_39 hI  
def S_X11_aliveOf : xS := tU fun as I Q => ∃ row, as = [.ref 0, .ref row] ∧ t_row row ∧ t_ok I ∧ Q (some (.int (g_alive (tK I) (tA I row)))) I
theorem body_X11_aliveOf : xm_Body 4 0 0 0 [] lX11_aliveOf kX11_aliveOf S_X11_aliveOf := by
  intro X avs w Q QX hX0 hS
  have hG := xm_go [] hX0
  have hX := xm_go [4] hX0
  clear hX0
  obtain ⟨I, rfl, row, rfl, hr, hok, hQ⟩ := hS
  obtain ⟨hn, h9, -⟩ := id hok
  have loop : ∀ k, k ≤ t_h I → X 4 [some (.ref 0), some (.ref row), some (.int (t_or k (g_al (tK I) (tA I row)))), some (.int (nI k))] [] (tW I) 0 0 := by
    refine t_for fun k h1 ih => ?_
    refine hG _ _ _ _ _ _ ?_
    (conv => whnf)
    repeat' (first
      | ((with_reducible refine @And.intro (vp_in _ _) _ ?_ ?_); (· (first | with_reducible assumption | ((with_reducible refine t_vin ?_); decide) | ((with_reducible refine vp_in_nI ?_ ?_) <;> first | omega | decide) | (simp (disch := omega) only [xl_n, xl_m, nI_dec, nI_sb, nI_add, pk_mul]; (with_reducible refine vp_in_nI ?_ ?_) <;> first | omega | decide))); (conv => whnf))
      | (refine And.intro (by first | with_reducible assumption | exact (show tL _ = _ from rfl) | decide) ?_; (conv => whnf))
      | ((with_reducible refine @And.intro (_ = _) _ ?_ ?_); (· rfl); (conv => whnf))
      | ((with_reducible refine @And.intro (@LE.le Nat _ _ _) _ ?_ ?_); (· (first | exact Nat.zero_le _ | exact Nat.le_of_ble_eq_true rfl | omega)); (conv => whnf))
      | ((with_reducible refine @And.intro (@LT.lt Nat _ _ _) _ ?_ ?_); (· omega); (conv => whnf))
      | ((with_reducible refine @And.intro (∃ _, _ = _) _ ?_ ?_); (· exact ⟨_, rfl⟩); (conv => whnf))
      | ((with_reducible refine @And.intro (_ ∨ _) _ ?_ ?_); (· (first | exact Or.inl rfl | exact Or.inr rfl | exact t_b01 _ | assumption)); (conv => whnf))
      | ((with_reducible refine @And.intro (¬ (_ = _)) _ ?_ ?_); (· first | assumption | (with_reducible assumption)); (conv => whnf))
      | (refine hX _ _ _ _ _ _ ?_; (conv => whnf); fail_if_success show False)
      | (rw [t_si]; (conv => whnf))
      | (refine ⟨_, rfl, ?_⟩; (conv => whnf))
      | (refine ⟨_, _, rfl, ?_⟩; (conv => whnf))
      | (refine ⟨_, _, _, rfl, ?_⟩; (conv => whnf))
      | (refine ⟨_, _, _, _, rfl, ?_⟩; (conv => whnf))
      | fail)
    refine And.intro (fun c => ?_) (fun c => ?_) <;> (conv => whnf)
    · repeat' (first
        | ((with_reducible refine @And.intro (vp_in _ _) _ ?_ ?_); (· (first | with_reducible assumption | ((with_reducible refine t_vin ?_); decide) | ((with_reducible refine vp_in_nI ?_ ?_) <;> first | omega | decide) | (simp (disch := omega) only [xl_n, xl_m, nI_dec, nI_sb, nI_add, pk_mul]; (with_reducible refine vp_in_nI ?_ ?_) <;> first | omega | decide))); (conv => whnf))
        | (refine And.intro (by first | with_reducible assumption | exact (show tL _ = _ from rfl) | decide) ?_; (conv => whnf))
        | ((with_reducible refine @And.intro (_ = _) _ ?_ ?_); (· rfl); (conv => whnf))
        | ((with_reducible refine @And.intro (@LE.le Nat _ _ _) _ ?_ ?_); (· (first | exact Nat.zero_le _ | exact Nat.le_of_ble_eq_true rfl | omega)); (conv => whnf))
        | ((with_reducible refine @And.intro (@LT.lt Nat _ _ _) _ ?_ ?_); (· omega); (conv => whnf))
        | ((with_reducible refine @And.intro (∃ _, _ = _) _ ?_ ?_); (· exact ⟨_, rfl⟩); (conv => whnf))
        | ((with_reducible refine @And.intro (_ ∨ _) _ ?_ ?_); (· (first | exact Or.inl rfl | exact Or.inr rfl | exact t_b01 _ | assumption)); (conv => whnf))
        | ((with_reducible refine @And.intro (¬ (_ = _)) _ ?_ ?_); (· first | assumption | (with_reducible assumption)); (conv => whnf))
        | (refine hX _ _ _ _ _ _ ?_; (conv => whnf); fail_if_success show False)
        | (rw [t_si]; (conv => whnf))
        | (refine ⟨_, rfl, ?_⟩; (conv => whnf))
        | (refine ⟨_, _, rfl, ?_⟩; (conv => whnf))
        | (refine ⟨_, _, _, rfl, ?_⟩; (conv => whnf))
        | (refine ⟨_, _, _, _, rfl, ?_⟩; (conv => whnf))
        | fail)
      have : k = t_h I := Nat.le_antisymm h1 (t_kge hn c (by omega) (by omega))
      subst this
      exact hQ
    · have hk : k < t_h I := t_klt hn c (by omega)
      repeat' (first
        | ((with_reducible refine @And.intro (vp_in _ _) _ ?_ ?_); (· (first | with_reducible assumption | ((with_reducible refine t_vin ?_); decide) | ((with_reducible refine vp_in_nI ?_ ?_) <;> first | omega | decide) | (simp (disch := omega) only [xl_n, xl_m, nI_dec, nI_sb, nI_add, pk_mul]; (with_reducible refine vp_in_nI ?_ ?_) <;> first | omega | decide))); (conv => whnf))
        | (refine And.intro (by first | with_reducible assumption | exact (show tL _ = _ from rfl) | decide) ?_; (conv => whnf))
        | ((with_reducible refine @And.intro (_ = _) _ ?_ ?_); (· rfl); (conv => whnf))
        | ((with_reducible refine @And.intro (@LE.le Nat _ _ _) _ ?_ ?_); (· (first | exact Nat.zero_le _ | exact Nat.le_of_ble_eq_true rfl | omega)); (conv => whnf))
        | ((with_reducible refine @And.intro (@LT.lt Nat _ _ _) _ ?_ ?_); (· omega); (conv => whnf))
        | ((with_reducible refine @And.intro (∃ _, _ = _) _ ?_ ?_); (· exact ⟨_, rfl⟩); (conv => whnf))
        | ((with_reducible refine @And.intro (_ ∨ _) _ ?_ ?_); (· (first | exact Or.inl rfl | exact Or.inr rfl | exact t_b01 _ | assumption)); (conv => whnf))
        | ((with_reducible refine @And.intro (¬ (_ = _)) _ ?_ ?_); (· first | assumption | (with_reducible assumption)); (conv => whnf))
        | (refine hX _ _ _ _ _ _ ?_; (conv => whnf); fail_if_success show False)
        | (rw [t_si]; (conv => whnf))
        | (refine ⟨_, rfl, ?_⟩; (conv => whnf))
        | (refine ⟨_, _, rfl, ?_⟩; (conv => whnf))
        | (refine ⟨_, _, _, rfl, ?_⟩; (conv => whnf))
        | (refine ⟨_, _, _, _, rfl, ?_⟩; (conv => whnf))
        | (rw [t_lrow hr]; (conv => whnf))
        | (refine And.intro (fun c => ?_) (fun c => ?_) <;> (first | (exact absurd c (by decide +kernel)) | (conv => whnf)))
        | fail)
      all_goals simp (disch := omega) only [xl_n, xl_m, nI_dec, nI_sb, xl_0, xl_1, tW_i, t_bn0, t_bn1, Classical.not_not, t_lt, nI_add, nI_1, pk_mul, nI_clamp, t_si, nI_eq, nI_leI, nM_ne, nM_ne, xm_set, xm_lv0, xm_psh] at *
      all_goals have := ih (k + 1) (by omega) (by omega)
      all_goals simpa [t_or_s, t_bit, c] using this
  refine ⟨rfl, ?_⟩
  repeat' (first
    | ((with_reducible refine @And.intro (vp_in _ _) _ ?_ ?_); (· (first | with_reducible assumption | ((with_reducible refine t_vin ?_); decide) | ((with_reducible refine vp_in_nI ?_ ?_) <;> first | omega | decide) | (simp (disch := omega) only [xl_n, xl_m, nI_dec, nI_sb, nI_add, pk_mul]; (with_reducible refine vp_in_nI ?_ ?_) <;> first | omega | decide))); (conv => whnf))
    | (refine And.intro (by first | with_reducible assumption | exact (show tL _ = _ from rfl) | decide) ?_; (conv => whnf))
    | ((with_reducible refine @And.intro (_ = _) _ ?_ ?_); (· rfl); (conv => whnf))
    | ((with_reducible refine @And.intro (@LE.le Nat _ _ _) _ ?_ ?_); (· (first | exact Nat.zero_le _ | exact Nat.le_of_ble_eq_true rfl | omega)); (conv => whnf))
    | ((with_reducible refine @And.intro (@LT.lt Nat _ _ _) _ ?_ ?_); (· omega); (conv => whnf))
    | ((with_reducible refine @And.intro (∃ _, _ = _) _ ?_ ?_); (· exact ⟨_, rfl⟩); (conv => whnf))
    | ((with_reducible refine @And.intro (_ ∨ _) _ ?_ ?_); (· (first | exact Or.inl rfl | exact Or.inr rfl | exact t_b01 _ | assumption)); (conv => whnf))
    | ((with_reducible refine @And.intro (¬ (_ = _)) _ ?_ ?_); (· first | assumption | (with_reducible assumption)); (conv => whnf))
    | (refine hX _ _ _ _ _ _ ?_; (conv => whnf); fail_if_success show False)
    | (rw [t_si]; (conv => whnf))
    | (refine ⟨_, rfl, ?_⟩; (conv => whnf))
    | (refine ⟨_, _, rfl, ?_⟩; (conv => whnf))
    | (refine ⟨_, _, _, rfl, ?_⟩; (conv => whnf))
    | (refine ⟨_, _, _, _, rfl, ?_⟩; (conv => whnf))
    | (refine And.intro (fun c => ?_) (fun c => ?_) <;> (first | (exact absurd c (by decide +kernel)) | (conv => whnf)))
    | fail)
  exact loop 0 (Nat.zero_le _)
theorem ct_X11_aliveOf {Iv : xI} (hI : xm_good Iv) : xm_Ct Iv yX11_aliveOf (ws_ yX11_aliveOf cX11_aliveOf 4 (some .int)) 3 0 0 S_X11_aliveOf := xm_enter (rt := 0) (init := false) (by decide +kernel) rfl (fun h => by cases h) (Or.inl ⟨rfl, rfl⟩) (oX11_aliveOf hI) body_X11_aliveOf
theorem cv_X11_aliveOf {Iv : xI} {own : String} {cc : ByteArray} {fr pc idx : Nat} (hI : xm_good Iv) (hdg : decode cc pc = .ok (.invokevirtual idx, 3)) (hl : xm_ml own idx yX11_aliveOf) (hfr : 3 < fr) : xm_CallOK Iv own cc fr pc (pc + 3) 2 0 0 (xm_this 8 S_X11_aliveOf) := xm_callV 8 hI (ct_X11_aliveOf hI) hdg hl q2290 qs82 q145 q2291 rfl rfl (by decide +kernel) hfr (by decide)
abbrev bX11_stringsOf_0 : List xE := [(.iconst 0, 1, 0, 0, 0), (.istore_n 2, 2, 0, 0, 0), (.iconst 0, 3, 0, 0, 0), (.istore_n 3, 4, 0, 0, 0)]
abbrev bX11_stringsOf_4 : List xE := [(.iload_n 3, 5, 0, 0, 0), (.aload_n 0, 6, 0, 0, 0), (.getfield 23, 9, 8, 12, 1), (.iconst 1, 10, 0, 0, 0), (.iaload, 11, 0, 0, 0), (.if_icmp .ge 18, 14, 0, 29, 0), (.iload_n 2, 15, 0, 0, 0), (.aload_n 1, 16, 0, 0, 0), (.bipush 9, 18, 0, 0, 0), (.iload_n 3, 19, 0, 0, 0), (.iadd, 20, 0, 0, 0), (.iaload, 21, 0, 0, 0), (.iadd, 22, 0, 0, 0), (.istore_n 2, 23, 0, 0, 0), (.iinc 3 1, 26, 0, 0, 0), (.goto (-22), 29, 0, 4, 0)]
abbrev bX11_stringsOf_29 : List xE := [(.iload_n 2, 30, 0, 0, 0), (.ireturn, 31, 0, 0, 0)]
abbrev kX11_stringsOf : List (Nat × List xE) := [(0, bX11_stringsOf_0), (4, bX11_stringsOf_4), (29, bX11_stringsOf_29)]
abbrev lX11_stringsOf : List (Nat × Nat × Nat × xS) := []
theorem oX11_stringsOf_0 {Iv : xI} (hI : xm_good Iv)  : xm_okb Iv RX11 cX11_stringsOf false 1 lX11_stringsOf bX11_stringsOf_0 0 := xo_0 dX11_stringsOf_0 rfl trivial (xo_0 dX11_stringsOf_1 rfl trivial (xo_0 dX11_stringsOf_2 rfl trivial (xo_0 dX11_stringsOf_3 rfl trivial (xo_n))))
theorem oX11_stringsOf_4 {Iv : xI} (hI : xm_good Iv)  : xm_okb Iv RX11 cX11_stringsOf false 1 lX11_stringsOf bX11_stringsOf_4 4 := xo_0 dX11_stringsOf_4 rfl trivial (xo_0 dX11_stringsOf_5 rfl trivial (xo_1 dX11_stringsOf_6 rfl (xm_fg_of (Or.inl q1967) (by decide) rfl (by decide) rfl rfl (Or.inl rfl) rfl) (xo_0 dX11_stringsOf_9 rfl trivial (xo_0 dX11_stringsOf_10 rfl trivial (xo_0 dX11_stringsOf_11 rfl rfl (xo_0 dX11_stringsOf_14 rfl trivial (xo_0 dX11_stringsOf_15 rfl trivial (xo_0 dX11_stringsOf_16 rfl (xo_bipush (by decide +kernel)) (xo_0 dX11_stringsOf_18 rfl trivial (xo_0 dX11_stringsOf_19 rfl trivial (xo_0 dX11_stringsOf_20 rfl trivial (xo_0 dX11_stringsOf_21 rfl trivial (xo_0 dX11_stringsOf_22 rfl trivial (xo_0 dX11_stringsOf_23 rfl trivial (xo_0 dX11_stringsOf_26 rfl rfl (xo_n))))))))))))))))
theorem oX11_stringsOf_29 {Iv : xI} (hI : xm_good Iv)  : xm_okb Iv RX11 cX11_stringsOf false 1 lX11_stringsOf bX11_stringsOf_29 29 := xo_0 dX11_stringsOf_29 rfl trivial (xo_0 dX11_stringsOf_30 rfl trivial (xo_n))
theorem oX11_stringsOf {Iv : xI} (hI : xm_good Iv)  : ∀ q ∈ kX11_stringsOf, xm_okb Iv RX11 cX11_stringsOf false 1 lX11_stringsOf q.2 q.1 := by
  intro q hq
  simp only [List.mem_cons, List.not_mem_nil, or_false] at hq
  rcases hq with rfl | rfl | rfl
  · exact oX11_stringsOf_0 hI  
  · exact oX11_stringsOf_4 hI  
  · exact oX11_stringsOf_29 hI  
def S_X11_stringsOf : xS := tU fun as I Q => ∃ row, as = [.ref 0, .ref row] ∧ t_row row ∧ t_ok I ∧ Q (some (.int (g_strs (tK I) (tA I row)))) I
theorem body_X11_stringsOf : xm_Body 4 0 0 0 [] lX11_stringsOf kX11_stringsOf S_X11_stringsOf := by
  intro X avs w Q QX hX0 hS
  have hG := xm_go [] hX0
  have hX := xm_go [4] hX0
  clear hX0
  obtain ⟨I, rfl, row, rfl, hr, hok, hQ⟩ := hS
  obtain ⟨-, -, hn, h8, -⟩ := id hok
  have loop : ∀ k, k ≤ t_p I → X 4 [some (.ref 0), some (.ref row), some (.int (t_sum k (gs (tA I row)))), some (.int (nI k))] [] (tW I) 0 0 := by
    refine t_for fun k h1 ih => ?_
    refine hG _ _ _ _ _ _ ?_
    (conv => whnf)
    repeat' (first
      | ((with_reducible refine @And.intro (vp_in _ _) _ ?_ ?_); (· (first | with_reducible assumption | ((with_reducible refine t_vin ?_); decide) | ((with_reducible refine vp_in_nI ?_ ?_) <;> first | omega | decide) | (simp (disch := omega) only [xl_n, xl_m, nI_dec, nI_sb, nI_add, pk_mul]; (with_reducible refine vp_in_nI ?_ ?_) <;> first | omega | decide))); (conv => whnf))
      | (refine And.intro (by first | with_reducible assumption | exact (show tL _ = _ from rfl) | decide) ?_; (conv => whnf))
      | ((with_reducible refine @And.intro (_ = _) _ ?_ ?_); (· rfl); (conv => whnf))
      | ((with_reducible refine @And.intro (@LE.le Nat _ _ _) _ ?_ ?_); (· (first | exact Nat.zero_le _ | exact Nat.le_of_ble_eq_true rfl | omega)); (conv => whnf))
      | ((with_reducible refine @And.intro (@LT.lt Nat _ _ _) _ ?_ ?_); (· omega); (conv => whnf))
      | ((with_reducible refine @And.intro (∃ _, _ = _) _ ?_ ?_); (· exact ⟨_, rfl⟩); (conv => whnf))
      | ((with_reducible refine @And.intro (_ ∨ _) _ ?_ ?_); (· (first | exact Or.inl rfl | exact Or.inr rfl | exact t_b01 _ | assumption)); (conv => whnf))
      | ((with_reducible refine @And.intro (¬ (_ = _)) _ ?_ ?_); (· first | assumption | (with_reducible assumption)); (conv => whnf))
      | (refine hX _ _ _ _ _ _ ?_; (conv => whnf); fail_if_success show False)
      | (rw [t_si]; (conv => whnf))
      | (refine ⟨_, rfl, ?_⟩; (conv => whnf))
      | (refine ⟨_, _, rfl, ?_⟩; (conv => whnf))
      | (refine ⟨_, _, _, rfl, ?_⟩; (conv => whnf))
      | (refine ⟨_, _, _, _, rfl, ?_⟩; (conv => whnf))
      | fail)
    refine And.intro (fun c => ?_) (fun c => ?_) <;> (conv => whnf)
    · repeat' (first
        | ((with_reducible refine @And.intro (vp_in _ _) _ ?_ ?_); (· (first | with_reducible assumption | ((with_reducible refine t_vin ?_); decide) | ((with_reducible refine vp_in_nI ?_ ?_) <;> first | omega | decide) | (simp (disch := omega) only [xl_n, xl_m, nI_dec, nI_sb, nI_add, pk_mul]; (with_reducible refine vp_in_nI ?_ ?_) <;> first | omega | decide))); (conv => whnf))
        | (refine And.intro (by first | with_reducible assumption | exact (show tL _ = _ from rfl) | decide) ?_; (conv => whnf))
        | ((with_reducible refine @And.intro (_ = _) _ ?_ ?_); (· rfl); (conv => whnf))
        | ((with_reducible refine @And.intro (@LE.le Nat _ _ _) _ ?_ ?_); (· (first | exact Nat.zero_le _ | exact Nat.le_of_ble_eq_true rfl | omega)); (conv => whnf))
        | ((with_reducible refine @And.intro (@LT.lt Nat _ _ _) _ ?_ ?_); (· omega); (conv => whnf))
        | ((with_reducible refine @And.intro (∃ _, _ = _) _ ?_ ?_); (· exact ⟨_, rfl⟩); (conv => whnf))
        | ((with_reducible refine @And.intro (_ ∨ _) _ ?_ ?_); (· (first | exact Or.inl rfl | exact Or.inr rfl | exact t_b01 _ | assumption)); (conv => whnf))
        | ((with_reducible refine @And.intro (¬ (_ = _)) _ ?_ ?_); (· first | assumption | (with_reducible assumption)); (conv => whnf))
        | (refine hX _ _ _ _ _ _ ?_; (conv => whnf); fail_if_success show False)
        | (rw [t_si]; (conv => whnf))
        | (refine ⟨_, rfl, ?_⟩; (conv => whnf))
        | (refine ⟨_, _, rfl, ?_⟩; (conv => whnf))
        | (refine ⟨_, _, _, rfl, ?_⟩; (conv => whnf))
        | (refine ⟨_, _, _, _, rfl, ?_⟩; (conv => whnf))
        | fail)
      have : k = t_p I := Nat.le_antisymm h1 (t_kge hn c (by omega) (by omega))
      subst this
      exact hQ
    · have hk : k < t_p I := t_klt hn c (by omega)
      repeat' (first
        | ((with_reducible refine @And.intro (vp_in _ _) _ ?_ ?_); (· (first | with_reducible assumption | ((with_reducible refine t_vin ?_); decide) | ((with_reducible refine vp_in_nI ?_ ?_) <;> first | omega | decide) | (simp (disch := omega) only [xl_n, xl_m, nI_dec, nI_sb, nI_add, pk_mul]; (with_reducible refine vp_in_nI ?_ ?_) <;> first | omega | decide))); (conv => whnf))
        | (refine And.intro (by first | with_reducible assumption | exact (show tL _ = _ from rfl) | decide) ?_; (conv => whnf))
        | ((with_reducible refine @And.intro (_ = _) _ ?_ ?_); (· rfl); (conv => whnf))
        | ((with_reducible refine @And.intro (@LE.le Nat _ _ _) _ ?_ ?_); (· (first | exact Nat.zero_le _ | exact Nat.le_of_ble_eq_true rfl | omega)); (conv => whnf))
        | ((with_reducible refine @And.intro (@LT.lt Nat _ _ _) _ ?_ ?_); (· omega); (conv => whnf))
        | ((with_reducible refine @And.intro (∃ _, _ = _) _ ?_ ?_); (· exact ⟨_, rfl⟩); (conv => whnf))
        | ((with_reducible refine @And.intro (_ ∨ _) _ ?_ ?_); (· (first | exact Or.inl rfl | exact Or.inr rfl | exact t_b01 _ | assumption)); (conv => whnf))
        | ((with_reducible refine @And.intro (¬ (_ = _)) _ ?_ ?_); (· first | assumption | (with_reducible assumption)); (conv => whnf))
        | (refine hX _ _ _ _ _ _ ?_; (conv => whnf); fail_if_success show False)
        | (rw [t_si]; (conv => whnf))
        | (refine ⟨_, rfl, ?_⟩; (conv => whnf))
        | (refine ⟨_, _, rfl, ?_⟩; (conv => whnf))
        | (refine ⟨_, _, _, rfl, ?_⟩; (conv => whnf))
        | (refine ⟨_, _, _, _, rfl, ?_⟩; (conv => whnf))
        | (rw [t_lrow hr]; (conv => whnf))
        | (refine And.intro (fun c => ?_) (fun c => ?_) <;> (first | (exact absurd c (by decide +kernel)) | (conv => whnf)))
        | fail)
      all_goals simp (disch := omega) only [xl_n, xl_m, nI_dec, nI_sb, xl_0, xl_1, tW_i, t_bn0, t_bn1, Classical.not_not, t_lt, nI_add, nI_1, pk_mul, nI_clamp, t_si, nI_eq, nI_leI, nM_ne, nM_ne, xm_set, xm_lv0, xm_psh] at *
      have := ih (k + 1) (by omega) (by omega)
      rw [t_sum_s] at this
      have e : gs (tA I row) k = I row (9 + k) := by simp [gs, tA, show k < 8 by omega]
      rw [e] at this
      exact this
  refine ⟨rfl, ?_⟩
  repeat' (first
    | ((with_reducible refine @And.intro (vp_in _ _) _ ?_ ?_); (· (first | with_reducible assumption | ((with_reducible refine t_vin ?_); decide) | ((with_reducible refine vp_in_nI ?_ ?_) <;> first | omega | decide) | (simp (disch := omega) only [xl_n, xl_m, nI_dec, nI_sb, nI_add, pk_mul]; (with_reducible refine vp_in_nI ?_ ?_) <;> first | omega | decide))); (conv => whnf))
    | (refine And.intro (by first | with_reducible assumption | exact (show tL _ = _ from rfl) | decide) ?_; (conv => whnf))
    | ((with_reducible refine @And.intro (_ = _) _ ?_ ?_); (· rfl); (conv => whnf))
    | ((with_reducible refine @And.intro (@LE.le Nat _ _ _) _ ?_ ?_); (· (first | exact Nat.zero_le _ | exact Nat.le_of_ble_eq_true rfl | omega)); (conv => whnf))
    | ((with_reducible refine @And.intro (@LT.lt Nat _ _ _) _ ?_ ?_); (· omega); (conv => whnf))
    | ((with_reducible refine @And.intro (∃ _, _ = _) _ ?_ ?_); (· exact ⟨_, rfl⟩); (conv => whnf))
    | ((with_reducible refine @And.intro (_ ∨ _) _ ?_ ?_); (· (first | exact Or.inl rfl | exact Or.inr rfl | exact t_b01 _ | assumption)); (conv => whnf))
    | ((with_reducible refine @And.intro (¬ (_ = _)) _ ?_ ?_); (· first | assumption | (with_reducible assumption)); (conv => whnf))
    | (refine hX _ _ _ _ _ _ ?_; (conv => whnf); fail_if_success show False)
    | (rw [t_si]; (conv => whnf))
    | (refine ⟨_, rfl, ?_⟩; (conv => whnf))
    | (refine ⟨_, _, rfl, ?_⟩; (conv => whnf))
    | (refine ⟨_, _, _, rfl, ?_⟩; (conv => whnf))
    | (refine ⟨_, _, _, _, rfl, ?_⟩; (conv => whnf))
    | (refine And.intro (fun c => ?_) (fun c => ?_) <;> (first | (exact absurd c (by decide +kernel)) | (conv => whnf)))
    | fail)
  exact loop 0 (Nat.zero_le _)
theorem ct_X11_stringsOf {Iv : xI} (hI : xm_good Iv) : xm_Ct Iv yX11_stringsOf (ws_ yX11_stringsOf cX11_stringsOf 4 (some .int)) 1 0 0 S_X11_stringsOf := xm_enter (rt := 0) (init := false) (by decide +kernel) rfl (fun h => by cases h) (Or.inl ⟨rfl, rfl⟩) (oX11_stringsOf hI) body_X11_stringsOf
theorem cv_X11_stringsOf {Iv : xI} {own : String} {cc : ByteArray} {fr pc idx : Nat} (hI : xm_good Iv) (hdg : decode cc pc = .ok (.invokevirtual idx, 3)) (hl : xm_ml own idx yX11_stringsOf) (hfr : 1 < fr) : xm_CallOK Iv own cc fr pc (pc + 3) 2 0 0 (xm_this 8 S_X11_stringsOf) := xm_callV 8 hI (ct_X11_stringsOf hI) hdg hl q2298 qs84 q145 q2299 rfl rfl (by decide +kernel) hfr (by decide)
theorem tA_gw {I : tI} {r p : Nat} (hp : p < 8) : gw (tA I r) p = I r (1 + p) := by simp [gw, tA, hp]
theorem tA_gs {I : tI} {r p : Nat} (hp : p < 8) : gs (tA I r) p = I r (9 + p) := by simp [gs, tA, hp]
theorem tA_gl {I : tI} {r p : Nat} (hp : p < 8) : gl (tA I r) p = I r (17 + p) := by simp [gl, tA, hp]
theorem tA_gc {I : tI} {r h : Nat} (hh : h < 9) : gc (tA I r) h = I r (97 + h) := by simp [gc, tA, hh]
theorem tA_gsi {I : tI} {r h p : Nat} (hh : h < 9) (hp : p < 8) : gsi (tA I r) h p = I r (25 + 8 * h + p) := by simp [gsi, tA, hp, hh]
theorem tA_gy {I : tI} {r : Nat} : gy (tA I r) = I r 106 := rfl
theorem tA_gd {I : tI} {r h : Nat} (hh : h < 9) : gd (tA I r) h = t_has (I r 0) h := by simp [gd, tA, hh]
abbrev bX11_workOf_0 : List xE := [(.iconst 0, 1, 0, 0, 0), (.istore_n 3, 2, 0, 0, 0), (.iconst 0, 3, 0, 0, 0), (.istore 4, 5, 0, 0, 0)]
abbrev bX11_workOf_5 : List xE := [(.iload 4, 7, 0, 0, 0), (.aload_n 0, 8, 0, 0, 0), (.getfield 23, 11, 8, 12, 1), (.iconst 1, 12, 0, 0, 0), (.iaload, 13, 0, 0, 0), (.if_icmp .ge 33, 16, 0, 46, 0), (.iload_n 3, 17, 0, 0, 0), (.aload_n 1, 18, 0, 0, 0), (.iconst 1, 19, 0, 0, 0), (.iload 4, 21, 0, 0, 0), (.iadd, 22, 0, 0, 0), (.iaload, 23, 0, 0, 0), (.iload_n 2, 24, 0, 0, 0), (.invokestatic 242, 27, 0, 0, 9), (.ifCond .eq 10, 30, 0, 37, 0), (.iconst 1, 31, 0, 0, 0), (.iload 4, 33, 0, 0, 0), (.ishl, 34, 0, 0, 0), (.goto 4, 37, 0, 38, 0)]
abbrev bX11_workOf_37 : List xE := [(.iconst 0, 38, 0, 0, 0)]
abbrev bX11_workOf_38 : List xE := [(.ior, 39, 0, 0, 0), (.istore_n 3, 40, 0, 0, 0), (.iinc 4 1, 43, 0, 0, 0), (.goto (-38), 46, 0, 5, 0)]
abbrev bX11_workOf_46 : List xE := [(.iload_n 3, 47, 0, 0, 0), (.ireturn, 48, 0, 0, 0)]
abbrev kX11_workOf : List (Nat × List xE) := [(0, bX11_workOf_0), (5, bX11_workOf_5), (37, bX11_workOf_37), (38, bX11_workOf_38), (46, bX11_workOf_46)]
abbrev lX11_workOf : List (Nat × Nat × Nat × xS) := [(2, 0, 0, S_X11_has)]
theorem oX11_workOf_0 {Iv : xI} (hI : xm_good Iv)  : xm_okb Iv RX11 cX11_workOf false 2 lX11_workOf bX11_workOf_0 0 := xo_0 dX11_workOf_0 rfl trivial (xo_0 dX11_workOf_1 rfl trivial (xo_0 dX11_workOf_2 rfl trivial (xo_0 dX11_workOf_3 rfl trivial (xo_n))))
theorem oX11_workOf_5 {Iv : xI} (hI : xm_good Iv)  : xm_okb Iv RX11 cX11_workOf false 2 lX11_workOf bX11_workOf_5 5 := xo_0 dX11_workOf_5 rfl trivial (xo_0 dX11_workOf_7 rfl trivial (xo_1 dX11_workOf_8 rfl (xm_fg_of (Or.inl q1967) (by decide) rfl (by decide) rfl rfl (Or.inl rfl) rfl) (xo_0 dX11_workOf_11 rfl trivial (xo_0 dX11_workOf_12 rfl trivial (xo_0 dX11_workOf_13 rfl rfl (xo_0 dX11_workOf_16 rfl trivial (xo_0 dX11_workOf_17 rfl trivial (xo_0 dX11_workOf_18 rfl trivial (xo_0 dX11_workOf_19 rfl trivial (xo_0 dX11_workOf_21 rfl trivial (xo_0 dX11_workOf_22 rfl trivial (xo_0 dX11_workOf_23 rfl trivial (xo_c rfl (cv_X11_has hI dX11_workOf_24 (Or.inl q1945) (by decide)) (xo_0 dX11_workOf_27 rfl rfl (xo_0 dX11_workOf_30 rfl trivial (xo_0 dX11_workOf_31 rfl trivial (xo_0 dX11_workOf_33 rfl trivial (xo_0 dX11_workOf_34 rfl rfl (xo_n)))))))))))))))))))
theorem oX11_workOf_37 {Iv : xI} (hI : xm_good Iv)  : xm_okb Iv RX11 cX11_workOf false 2 lX11_workOf bX11_workOf_37 37 := xo_0 dX11_workOf_37 rfl trivial (xo_n)
theorem oX11_workOf_38 {Iv : xI} (hI : xm_good Iv)  : xm_okb Iv RX11 cX11_workOf false 2 lX11_workOf bX11_workOf_38 38 := xo_0 dX11_workOf_38 rfl trivial (xo_0 dX11_workOf_39 rfl trivial (xo_0 dX11_workOf_40 rfl trivial (xo_0 dX11_workOf_43 rfl rfl (xo_n))))
theorem oX11_workOf_46 {Iv : xI} (hI : xm_good Iv)  : xm_okb Iv RX11 cX11_workOf false 2 lX11_workOf bX11_workOf_46 46 := xo_0 dX11_workOf_46 rfl trivial (xo_0 dX11_workOf_47 rfl trivial (xo_n))
theorem oX11_workOf {Iv : xI} (hI : xm_good Iv)  : ∀ q ∈ kX11_workOf, xm_okb Iv RX11 cX11_workOf false 2 lX11_workOf q.2 q.1 := by
  intro q hq
  simp only [List.mem_cons, List.not_mem_nil, or_false] at hq
  rcases hq with rfl | rfl | rfl | rfl | rfl
  · exact oX11_workOf_0 hI  
  · exact oX11_workOf_5 hI  
  · exact oX11_workOf_37 hI  
  · exact oX11_workOf_38 hI  
  · exact oX11_workOf_46 hI  
def S_X11_workOf : xS := tU fun as I Q => ∃ row h, as = [.ref 0, .ref row, .int (nI h)] ∧ t_row row ∧ t_ok I ∧ Q (some (.int (g_work (tK I) (tA I row) h))) I
theorem body_X11_workOf : xm_Body 5 0 0 0 [] lX11_workOf kX11_workOf S_X11_workOf := by
  intro X avs w Q QX hX0 hS
  have hG := xm_go [] hX0
  have hX := xm_go [5] hX0
  clear hX0
  obtain ⟨I, rfl, row, h, rfl, hr, hok, hQ⟩ := hS
  obtain ⟨-, -, hn, h8, -⟩ := id hok
  have loop : ∀ k, k ≤ t_p I → X 5 [some (.ref 0), some (.ref row), some (.int (nI h)), some (.int (t_or k (fun p => t_has (gw (tA I row) p) h))), some (.int (nI k))] [] (tW I) 0 0 := by
    refine t_for fun k h1 ih => ?_
    refine hG _ _ _ _ _ _ ?_
    (conv => whnf)
    repeat' (first
      | ((with_reducible refine @And.intro (vp_in _ _) _ ?_ ?_); (· (first | with_reducible assumption | ((with_reducible refine t_vin ?_); decide) | ((with_reducible refine vp_in_nI ?_ ?_) <;> first | omega | decide) | (simp (disch := omega) only [xl_n, xl_m, nI_dec, nI_sb, nI_add, pk_mul]; (with_reducible refine vp_in_nI ?_ ?_) <;> first | omega | decide))); (conv => whnf))
      | (refine And.intro (by first | with_reducible assumption | exact (show tL _ = _ from rfl) | decide) ?_; (conv => whnf))
      | ((with_reducible refine @And.intro (_ = _) _ ?_ ?_); (· rfl); (conv => whnf))
      | ((with_reducible refine @And.intro (@LE.le Nat _ _ _) _ ?_ ?_); (· (first | exact Nat.zero_le _ | exact Nat.le_of_ble_eq_true rfl | omega)); (conv => whnf))
      | ((with_reducible refine @And.intro (@LT.lt Nat _ _ _) _ ?_ ?_); (· omega); (conv => whnf))
      | ((with_reducible refine @And.intro (∃ _, _ = _) _ ?_ ?_); (· exact ⟨_, rfl⟩); (conv => whnf))
      | ((with_reducible refine @And.intro (_ ∨ _) _ ?_ ?_); (· (first | exact Or.inl rfl | exact Or.inr rfl | exact t_b01 _ | assumption)); (conv => whnf))
      | ((with_reducible refine @And.intro (¬ (_ = _)) _ ?_ ?_); (· first | assumption | (with_reducible assumption)); (conv => whnf))
      | (refine hX _ _ _ _ _ _ ?_; (conv => whnf); fail_if_success show False)
      | (rw [t_si]; (conv => whnf))
      | (refine ⟨_, rfl, ?_⟩; (conv => whnf))
      | (refine ⟨_, _, rfl, ?_⟩; (conv => whnf))
      | (refine ⟨_, _, _, rfl, ?_⟩; (conv => whnf))
      | (refine ⟨_, _, _, _, rfl, ?_⟩; (conv => whnf))
      | fail)
    refine And.intro (fun c => ?_) (fun c => ?_) <;> (conv => whnf)
    · repeat' (first
        | ((with_reducible refine @And.intro (vp_in _ _) _ ?_ ?_); (· (first | with_reducible assumption | ((with_reducible refine t_vin ?_); decide) | ((with_reducible refine vp_in_nI ?_ ?_) <;> first | omega | decide) | (simp (disch := omega) only [xl_n, xl_m, nI_dec, nI_sb, nI_add, pk_mul]; (with_reducible refine vp_in_nI ?_ ?_) <;> first | omega | decide))); (conv => whnf))
        | (refine And.intro (by first | with_reducible assumption | exact (show tL _ = _ from rfl) | decide) ?_; (conv => whnf))
        | ((with_reducible refine @And.intro (_ = _) _ ?_ ?_); (· rfl); (conv => whnf))
        | ((with_reducible refine @And.intro (@LE.le Nat _ _ _) _ ?_ ?_); (· (first | exact Nat.zero_le _ | exact Nat.le_of_ble_eq_true rfl | omega)); (conv => whnf))
        | ((with_reducible refine @And.intro (@LT.lt Nat _ _ _) _ ?_ ?_); (· omega); (conv => whnf))
        | ((with_reducible refine @And.intro (∃ _, _ = _) _ ?_ ?_); (· exact ⟨_, rfl⟩); (conv => whnf))
        | ((with_reducible refine @And.intro (_ ∨ _) _ ?_ ?_); (· (first | exact Or.inl rfl | exact Or.inr rfl | exact t_b01 _ | assumption)); (conv => whnf))
        | ((with_reducible refine @And.intro (¬ (_ = _)) _ ?_ ?_); (· first | assumption | (with_reducible assumption)); (conv => whnf))
        | (refine hX _ _ _ _ _ _ ?_; (conv => whnf); fail_if_success show False)
        | (rw [t_si]; (conv => whnf))
        | (refine ⟨_, rfl, ?_⟩; (conv => whnf))
        | (refine ⟨_, _, rfl, ?_⟩; (conv => whnf))
        | (refine ⟨_, _, _, rfl, ?_⟩; (conv => whnf))
        | (refine ⟨_, _, _, _, rfl, ?_⟩; (conv => whnf))
        | fail)
      have : k = t_p I := Nat.le_antisymm h1 (t_kge hn c (by omega) (by omega))
      subst this
      exact hQ
    · have hk : k < t_p I := t_klt hn c (by omega)
      repeat' (first
        | ((with_reducible refine @And.intro (vp_in _ _) _ ?_ ?_); (· (first | with_reducible assumption | ((with_reducible refine t_vin ?_); decide) | ((with_reducible refine vp_in_nI ?_ ?_) <;> first | omega | decide) | (simp (disch := omega) only [xl_n, xl_m, nI_dec, nI_sb, nI_add, pk_mul]; (with_reducible refine vp_in_nI ?_ ?_) <;> first | omega | decide))); (conv => whnf))
        | (refine And.intro (by first | with_reducible assumption | exact (show tL _ = _ from rfl) | decide) ?_; (conv => whnf))
        | ((with_reducible refine @And.intro (_ = _) _ ?_ ?_); (· rfl); (conv => whnf))
        | ((with_reducible refine @And.intro (@LE.le Nat _ _ _) _ ?_ ?_); (· (first | exact Nat.zero_le _ | exact Nat.le_of_ble_eq_true rfl | omega)); (conv => whnf))
        | ((with_reducible refine @And.intro (@LT.lt Nat _ _ _) _ ?_ ?_); (· omega); (conv => whnf))
        | ((with_reducible refine @And.intro (∃ _, _ = _) _ ?_ ?_); (· exact ⟨_, rfl⟩); (conv => whnf))
        | ((with_reducible refine @And.intro (_ ∨ _) _ ?_ ?_); (· (first | exact Or.inl rfl | exact Or.inr rfl | exact t_b01 _ | assumption)); (conv => whnf))
        | ((with_reducible refine @And.intro (¬ (_ = _)) _ ?_ ?_); (· first | assumption | (with_reducible assumption)); (conv => whnf))
        | (refine hX _ _ _ _ _ _ ?_; (conv => whnf); fail_if_success show False)
        | (rw [t_si]; (conv => whnf))
        | (refine ⟨_, rfl, ?_⟩; (conv => whnf))
        | (refine ⟨_, _, rfl, ?_⟩; (conv => whnf))
        | (refine ⟨_, _, _, rfl, ?_⟩; (conv => whnf))
        | (refine ⟨_, _, _, _, rfl, ?_⟩; (conv => whnf))
        | (rw [t_lrow hr]; (conv => whnf))
        | (refine And.intro (fun c => ?_) (fun c => ?_) <;> (first | (exact absurd c (by decide +kernel)) | (conv => whnf)))
        | fail)
      all_goals simp (disch := omega) only [xl_n, xl_m, nI_dec, nI_sb, xl_0, xl_1, tW_i, t_bn0, t_bn1, Classical.not_not, t_lt, nI_add, nI_1, pk_mul, nI_clamp, t_si, nI_eq, nI_leI, nM_ne, nM_ne, xm_set, xm_lv0, xm_psh] at *
      all_goals have := ih (k + 1) (by omega) (by omega)
      all_goals rw [t_or_s, tA_gw (by omega)] at this
      all_goals simpa [t_bit, c] using this
  refine ⟨rfl, ?_⟩
  repeat' (first
    | ((with_reducible refine @And.intro (vp_in _ _) _ ?_ ?_); (· (first | with_reducible assumption | ((with_reducible refine t_vin ?_); decide) | ((with_reducible refine vp_in_nI ?_ ?_) <;> first | omega | decide) | (simp (disch := omega) only [xl_n, xl_m, nI_dec, nI_sb, nI_add, pk_mul]; (with_reducible refine vp_in_nI ?_ ?_) <;> first | omega | decide))); (conv => whnf))
    | (refine And.intro (by first | with_reducible assumption | exact (show tL _ = _ from rfl) | decide) ?_; (conv => whnf))
    | ((with_reducible refine @And.intro (_ = _) _ ?_ ?_); (· rfl); (conv => whnf))
    | ((with_reducible refine @And.intro (@LE.le Nat _ _ _) _ ?_ ?_); (· (first | exact Nat.zero_le _ | exact Nat.le_of_ble_eq_true rfl | omega)); (conv => whnf))
    | ((with_reducible refine @And.intro (@LT.lt Nat _ _ _) _ ?_ ?_); (· omega); (conv => whnf))
    | ((with_reducible refine @And.intro (∃ _, _ = _) _ ?_ ?_); (· exact ⟨_, rfl⟩); (conv => whnf))
    | ((with_reducible refine @And.intro (_ ∨ _) _ ?_ ?_); (· (first | exact Or.inl rfl | exact Or.inr rfl | exact t_b01 _ | assumption)); (conv => whnf))
    | ((with_reducible refine @And.intro (¬ (_ = _)) _ ?_ ?_); (· first | assumption | (with_reducible assumption)); (conv => whnf))
    | (refine hX _ _ _ _ _ _ ?_; (conv => whnf); fail_if_success show False)
    | (rw [t_si]; (conv => whnf))
    | (refine ⟨_, rfl, ?_⟩; (conv => whnf))
    | (refine ⟨_, _, rfl, ?_⟩; (conv => whnf))
    | (refine ⟨_, _, _, rfl, ?_⟩; (conv => whnf))
    | (refine ⟨_, _, _, _, rfl, ?_⟩; (conv => whnf))
    | (refine And.intro (fun c => ?_) (fun c => ?_) <;> (first | (exact absurd c (by decide +kernel)) | (conv => whnf)))
    | fail)
  exact loop 0 (Nat.zero_le _)
theorem ct_X11_workOf {Iv : xI} (hI : xm_good Iv) : xm_Ct Iv yX11_workOf (ws_ yX11_workOf cX11_workOf 5 (some .int)) 2 0 0 S_X11_workOf := xm_enter (rt := 0) (init := false) (by decide +kernel) rfl (fun h => by cases h) (Or.inl ⟨rfl, rfl⟩) (oX11_workOf hI) body_X11_workOf
theorem cv_X11_workOf {Iv : xI} {own : String} {cc : ByteArray} {fr pc idx : Nat} (hI : xm_good Iv) (hdg : decode cc pc = .ok (.invokevirtual idx, 3)) (hl : xm_ml own idx yX11_workOf) (hfr : 2 < fr) : xm_CallOK Iv own cc fr pc (pc + 3) 3 0 0 (xm_this 8 S_X11_workOf) := xm_callV 8 hI (ct_X11_workOf hI) hdg hl q2310 qs86 q145 q2311 rfl rfl (by decide +kernel) hfr (by decide)
abbrev bX11_lacksOf_0 : List xE := [(.iconst 0, 1, 0, 0, 0), (.aload_n 0, 2, 0, 0, 0), (.getfield 55, 5, 8, 22, 1), (.iload_n 2, 6, 0, 0, 0), (.aaload, 7, 0, 0, 0), (.iconst 1, 8, 0, 0, 0), (.iaload, 9, 0, 0, 0), (.aload_n 1, 10, 0, 0, 0), (.iconst 1, 11, 0, 0, 0), (.iload_n 2, 12, 0, 0, 0), (.iadd, 13, 0, 0, 0), (.iaload, 14, 0, 0, 0), (.invokestatic 246, 17, 0, 0, 9), (.isub, 18, 0, 0, 0), (.invokestatic 313, 21, 0, 1, 9), (.ireturn, 22, 0, 0, 0)]
abbrev kX11_lacksOf : List (Nat × List xE) := [(0, bX11_lacksOf_0)]
abbrev lX11_lacksOf : List (Nat × Nat × Nat × xS) := [(1, 0, 0, S_X11_ones), (2, 0, 0, S_X11_more)]
theorem oX11_lacksOf_0 {Iv : xI} (hI : xm_good Iv)  : xm_okb Iv RX11 cX11_lacksOf false 2 lX11_lacksOf bX11_lacksOf_0 0 := xo_0 dX11_lacksOf_0 rfl trivial (xo_0 dX11_lacksOf_1 rfl trivial (xo_1 dX11_lacksOf_2 rfl (xm_fg_of (Or.inl q1977) (by decide) rfl (by decide) rfl rfl (Or.inl rfl) rfl) (xo_0 dX11_lacksOf_5 rfl trivial (xo_0 dX11_lacksOf_6 rfl trivial (xo_0 dX11_lacksOf_7 rfl trivial (xo_0 dX11_lacksOf_8 rfl trivial (xo_0 dX11_lacksOf_9 rfl trivial (xo_0 dX11_lacksOf_10 rfl trivial (xo_0 dX11_lacksOf_11 rfl trivial (xo_0 dX11_lacksOf_12 rfl trivial (xo_0 dX11_lacksOf_13 rfl trivial (xo_c rfl (cv_X11_ones hI dX11_lacksOf_14 (Or.inl q2218) (by decide)) (xo_0 dX11_lacksOf_17 rfl trivial (xo_c rfl (cv_X11_more hI dX11_lacksOf_18 (Or.inl q2312) (by decide)) (xo_0 dX11_lacksOf_21 rfl trivial (xo_n))))))))))))))))
theorem oX11_lacksOf {Iv : xI} (hI : xm_good Iv)  : ∀ q ∈ kX11_lacksOf, xm_okb Iv RX11 cX11_lacksOf false 2 lX11_lacksOf q.2 q.1 := by
  intro q hq
  simp only [List.mem_cons, List.not_mem_nil, or_false] at hq
  subst hq
  exact oX11_lacksOf_0 hI  
def S_X11_lacksOf : xS := tU fun as I Q => ∃ row p, as = [.ref 0, .ref row, .int (nI p)] ∧ t_row row ∧ t_ok I ∧ p < t_p I ∧ Q (some (.int (g_lack (tK I) (tA I row) p))) I
theorem body_X11_lacksOf : xm_Body 3 0 0 0 [] lX11_lacksOf kX11_lacksOf S_X11_lacksOf := by
  intro X avs w Q QX hX0 hS
  have hG := xm_go [] hX0
  have hX := xm_go [] hX0
  clear hX0
  obtain ⟨I, rfl, row, p, rfl, hr, hok, hp, hQ⟩ := hS
  have h8 : p < 8 := Nat.lt_of_lt_of_le hp hok.2.2.2.1
  refine ⟨rfl, ?_⟩
  repeat' (first
    | ((with_reducible refine @And.intro (vp_in _ _) _ ?_ ?_); (· (first | with_reducible assumption | ((with_reducible refine t_vin ?_); decide) | ((with_reducible refine vp_in_nI ?_ ?_) <;> first | omega | decide) | (simp (disch := omega) only [xl_n, xl_m, nI_dec, nI_sb, nI_add, pk_mul]; (with_reducible refine vp_in_nI ?_ ?_) <;> first | omega | decide))); (conv => whnf))
    | (refine And.intro (by first | with_reducible assumption | exact (show tL _ = _ from rfl) | decide) ?_; (conv => whnf))
    | ((with_reducible refine @And.intro (_ = _) _ ?_ ?_); (· rfl); (conv => whnf))
    | ((with_reducible refine @And.intro (@LE.le Nat _ _ _) _ ?_ ?_); (· (first | exact Nat.zero_le _ | exact Nat.le_of_ble_eq_true rfl | omega)); (conv => whnf))
    | ((with_reducible refine @And.intro (@LT.lt Nat _ _ _) _ ?_ ?_); (· omega); (conv => whnf))
    | ((with_reducible refine @And.intro (∃ _, _ = _) _ ?_ ?_); (· exact ⟨_, rfl⟩); (conv => whnf))
    | ((with_reducible refine @And.intro (_ ∨ _) _ ?_ ?_); (· (first | exact Or.inl rfl | exact Or.inr rfl | exact t_b01 _ | assumption)); (conv => whnf))
    | ((with_reducible refine @And.intro (¬ (_ = _)) _ ?_ ?_); (· first | assumption | (with_reducible assumption)); (conv => whnf))
    | (refine hX _ _ _ _ _ _ ?_; (conv => whnf); fail_if_success show False)
    | (rw [t_si]; (conv => whnf))
    | (refine ⟨_, rfl, ?_⟩; (conv => whnf))
    | (refine ⟨_, _, rfl, ?_⟩; (conv => whnf))
    | (refine ⟨_, _, _, rfl, ?_⟩; (conv => whnf))
    | (refine ⟨_, _, _, _, rfl, ?_⟩; (conv => whnf))
    | (rw [t_lrow hr]; (conv => whnf))
    | (rw [t_l130 (by first | with_reducible assumption | omega | exact vp_lt (by assumption) | (rw [nI_clamp (by omega)]; omega))]; (conv => whnf))
    | (refine And.intro (fun c => ?_) (fun c => ?_) <;> (first | (exact absurd c (by decide +kernel)) | (conv => whnf)))
    | fail)
  all_goals refine t_q hQ ?_
  all_goals clear hX hG
  all_goals simp (disch := omega) only [xl_n, xl_m, nI_dec, nI_sb, xl_0, xl_1, tW_i, t_bn0, t_bn1, Classical.not_not, t_lt, nI_add, nI_1, pk_mul, nI_clamp, t_si, nI_eq, nI_leI, nM_ne, nM_ne] at *
  simp [g_lack, tA_gw h8, gneeds, tK, hp]
theorem ct_X11_lacksOf {Iv : xI} (hI : xm_good Iv) : xm_Ct Iv yX11_lacksOf (ws_ yX11_lacksOf cX11_lacksOf 3 (some .int)) 2 0 0 S_X11_lacksOf := xm_enter (rt := 0) (init := false) (by decide +kernel) rfl (fun h => by cases h) (Or.inl ⟨rfl, rfl⟩) (oX11_lacksOf hI) body_X11_lacksOf
theorem cv_X11_lacksOf {Iv : xI} {own : String} {cc : ByteArray} {fr pc idx : Nat} (hI : xm_good Iv) (hdg : decode cc pc = .ok (.invokevirtual idx, 3)) (hl : xm_ml own idx yX11_lacksOf) (hfr : 2 < fr) : xm_CallOK Iv own cc fr pc (pc + 3) 3 0 0 (xm_this 8 S_X11_lacksOf) := xm_callV 8 hI (ct_X11_lacksOf hI) hdg hl q2325 qs88 q145 q2326 rfl rfl (by decide +kernel) hfr (by decide)
abbrev bX11_kinOf_0 : List xE := [(.aload_n 1, 1, 0, 0, 0), (.iconst 1, 2, 0, 0, 0), (.iload_n 2, 3, 0, 0, 0), (.iadd, 4, 0, 0, 0), (.iaload, 5, 0, 0, 0), (.aload_n 1, 6, 0, 0, 0), (.bipush 17, 8, 0, 0, 0), (.iload_n 2, 9, 0, 0, 0), (.iadd, 10, 0, 0, 0), (.iaload, 11, 0, 0, 0), (.iconst (-1), 12, 0, 0, 0), (.if_icmp .ne 7, 15, 0, 19, 0), (.iconst 0, 16, 0, 0, 0), (.goto 11, 19, 0, 27, 0)]
abbrev bX11_kinOf_19 : List xE := [(.iconst 1, 20, 0, 0, 0), (.aload_n 1, 21, 0, 0, 0), (.bipush 17, 23, 0, 0, 0), (.iload_n 2, 24, 0, 0, 0), (.iadd, 25, 0, 0, 0), (.iaload, 26, 0, 0, 0), (.ishl, 27, 0, 0, 0)]
abbrev bX11_kinOf_27 : List xE := [(.ior, 28, 0, 0, 0), (.istore 4, 30, 0, 0, 0), (.iconst 0, 31, 0, 0, 0), (.istore 5, 33, 0, 0, 0)]
abbrev bX11_kinOf_33 : List xE := [(.iload 5, 35, 0, 0, 0), (.aload_n 0, 36, 0, 0, 0), (.getfield 23, 39, 8, 12, 1), (.iconst 1, 40, 0, 0, 0), (.iaload, 41, 0, 0, 0), (.if_icmp .ge 48, 44, 0, 89, 0), (.iload 5, 46, 0, 0, 0), (.iload_n 2, 47, 0, 0, 0), (.if_icmp .eq 36, 50, 0, 83, 0), (.aload_n 1, 51, 0, 0, 0), (.iconst 1, 52, 0, 0, 0), (.iload 5, 54, 0, 0, 0), (.iadd, 55, 0, 0, 0), (.iaload, 56, 0, 0, 0), (.iload_n 3, 57, 0, 0, 0), (.invokestatic 242, 60, 0, 0, 9), (.ifCond .eq 23, 63, 0, 83, 0), (.aload_n 1, 64, 0, 0, 0), (.iconst 1, 65, 0, 0, 0), (.iload 5, 67, 0, 0, 0), (.iadd, 68, 0, 0, 0), (.iaload, 69, 0, 0, 0), (.iload 4, 71, 0, 0, 0), (.iand, 72, 0, 0, 0), (.iconst 1, 73, 0, 0, 0), (.iload_n 3, 74, 0, 0, 0), (.ishl, 75, 0, 0, 0), (.iconst (-1), 76, 0, 0, 0), (.ixor, 77, 0, 0, 0), (.iand, 78, 0, 0, 0), (.ifCond .eq 5, 81, 0, 83, 0), (.iconst 1, 82, 0, 0, 0), (.ireturn, 83, 0, 0, 0)]
abbrev bX11_kinOf_83 : List xE := [(.iinc 5 1, 86, 0, 0, 0), (.goto (-53), 89, 0, 33, 0)]
abbrev bX11_kinOf_89 : List xE := [(.iconst 0, 90, 0, 0, 0), (.ireturn, 91, 0, 0, 0)]
abbrev kX11_kinOf : List (Nat × List xE) := [(0, bX11_kinOf_0), (19, bX11_kinOf_19), (27, bX11_kinOf_27), (33, bX11_kinOf_33), (83, bX11_kinOf_83), (89, bX11_kinOf_89)]
abbrev lX11_kinOf : List (Nat × Nat × Nat × xS) := [(2, 0, 0, S_X11_has)]
theorem oX11_kinOf_0 {Iv : xI} (hI : xm_good Iv)  : xm_okb Iv RX11 cX11_kinOf false 2 lX11_kinOf bX11_kinOf_0 0 := xo_0 dX11_kinOf_0 rfl trivial (xo_0 dX11_kinOf_1 rfl trivial (xo_0 dX11_kinOf_2 rfl trivial (xo_0 dX11_kinOf_3 rfl trivial (xo_0 dX11_kinOf_4 rfl trivial (xo_0 dX11_kinOf_5 rfl trivial (xo_0 dX11_kinOf_6 rfl (xo_bipush (by decide +kernel)) (xo_0 dX11_kinOf_8 rfl trivial (xo_0 dX11_kinOf_9 rfl trivial (xo_0 dX11_kinOf_10 rfl trivial (xo_0 dX11_kinOf_11 rfl trivial (xo_0 dX11_kinOf_12 rfl rfl (xo_0 dX11_kinOf_15 rfl trivial (xo_0 dX11_kinOf_16 rfl rfl (xo_n))))))))))))))
theorem oX11_kinOf_19 {Iv : xI} (hI : xm_good Iv)  : xm_okb Iv RX11 cX11_kinOf false 2 lX11_kinOf bX11_kinOf_19 19 := xo_0 dX11_kinOf_19 rfl trivial (xo_0 dX11_kinOf_20 rfl trivial (xo_0 dX11_kinOf_21 rfl (xo_bipush (by decide +kernel)) (xo_0 dX11_kinOf_23 rfl trivial (xo_0 dX11_kinOf_24 rfl trivial (xo_0 dX11_kinOf_25 rfl trivial (xo_0 dX11_kinOf_26 rfl trivial (xo_n)))))))
theorem oX11_kinOf_27 {Iv : xI} (hI : xm_good Iv)  : xm_okb Iv RX11 cX11_kinOf false 2 lX11_kinOf bX11_kinOf_27 27 := xo_0 dX11_kinOf_27 rfl trivial (xo_0 dX11_kinOf_28 rfl trivial (xo_0 dX11_kinOf_30 rfl trivial (xo_0 dX11_kinOf_31 rfl trivial (xo_n))))
theorem oX11_kinOf_33 {Iv : xI} (hI : xm_good Iv)  : xm_okb Iv RX11 cX11_kinOf false 2 lX11_kinOf bX11_kinOf_33 33 := xo_0 dX11_kinOf_33 rfl trivial (xo_0 dX11_kinOf_35 rfl trivial (xo_1 dX11_kinOf_36 rfl (xm_fg_of (Or.inl q1967) (by decide) rfl (by decide) rfl rfl (Or.inl rfl) rfl) (xo_0 dX11_kinOf_39 rfl trivial (xo_0 dX11_kinOf_40 rfl trivial (xo_0 dX11_kinOf_41 rfl rfl (xo_0 dX11_kinOf_44 rfl trivial (xo_0 dX11_kinOf_46 rfl trivial (xo_0 dX11_kinOf_47 rfl rfl (xo_0 dX11_kinOf_50 rfl trivial (xo_0 dX11_kinOf_51 rfl trivial (xo_0 dX11_kinOf_52 rfl trivial (xo_0 dX11_kinOf_54 rfl trivial (xo_0 dX11_kinOf_55 rfl trivial (xo_0 dX11_kinOf_56 rfl trivial (xo_c rfl (cv_X11_has hI dX11_kinOf_57 (Or.inl q1945) (by decide)) (xo_0 dX11_kinOf_60 rfl rfl (xo_0 dX11_kinOf_63 rfl trivial (xo_0 dX11_kinOf_64 rfl trivial (xo_0 dX11_kinOf_65 rfl trivial (xo_0 dX11_kinOf_67 rfl trivial (xo_0 dX11_kinOf_68 rfl trivial (xo_0 dX11_kinOf_69 rfl trivial (xo_0 dX11_kinOf_71 rfl trivial (xo_0 dX11_kinOf_72 rfl trivial (xo_0 dX11_kinOf_73 rfl trivial (xo_0 dX11_kinOf_74 rfl trivial (xo_0 dX11_kinOf_75 rfl trivial (xo_0 dX11_kinOf_76 rfl trivial (xo_0 dX11_kinOf_77 rfl trivial (xo_0 dX11_kinOf_78 rfl rfl (xo_0 dX11_kinOf_81 rfl trivial (xo_0 dX11_kinOf_82 rfl trivial (xo_n)))))))))))))))))))))))))))))))))
theorem oX11_kinOf_83 {Iv : xI} (hI : xm_good Iv)  : xm_okb Iv RX11 cX11_kinOf false 2 lX11_kinOf bX11_kinOf_83 83 := xo_0 dX11_kinOf_83 rfl trivial (xo_0 dX11_kinOf_86 rfl rfl (xo_n))
theorem oX11_kinOf_89 {Iv : xI} (hI : xm_good Iv)  : xm_okb Iv RX11 cX11_kinOf false 2 lX11_kinOf bX11_kinOf_89 89 := xo_0 dX11_kinOf_89 rfl trivial (xo_0 dX11_kinOf_90 rfl trivial (xo_n))
theorem oX11_kinOf {Iv : xI} (hI : xm_good Iv)  : ∀ q ∈ kX11_kinOf, xm_okb Iv RX11 cX11_kinOf false 2 lX11_kinOf q.2 q.1 := by
  intro q hq
  simp only [List.mem_cons, List.not_mem_nil, or_false] at hq
  rcases hq with rfl | rfl | rfl | rfl | rfl | rfl
  · exact oX11_kinOf_0 hI  
  · exact oX11_kinOf_19 hI  
  · exact oX11_kinOf_27 hI  
  · exact oX11_kinOf_33 hI  
  · exact oX11_kinOf_83 hI  
  · exact oX11_kinOf_89 hI  
def S_X11_kinOf : xS := tU fun as I Q => ∃ row p h, as = [.ref 0, .ref row, .int (nI p), .int (nI h)] ∧ t_row row ∧ t_ok I ∧ p < 8 ∧ Q (some (.int (t_b (g_kin (tK I) (tA I row) p h)))) I
theorem body_X11_kinOf : xm_Body 6 0 0 0 [] lX11_kinOf kX11_kinOf S_X11_kinOf := by
  intro X avs w Q QX hX0 hS
  have hG := xm_go [] hX0
  have hX := xm_go [33] hX0
  clear hX0
  obtain ⟨I, rfl, row, p, h, rfl, hr, hok, hp, hQ⟩ := hS
  obtain ⟨-, -, hn, h8, -⟩ := id hok
  have loop : ∀ k, k ≤ t_p I → t_ex k (fun q => decide (q ≠ p) && t_has (gw (tA I row) q) h && !decide ((gw (tA I row) q &&& g_with (tA I row) p) &&& (t_bit h ^^^ nM) = nI 0)) = false → X 33 [some (.ref 0), some (.ref row), some (.int (nI p)), some (.int (nI h)), some (.int (g_with (tA I row) p)), some (.int (nI k))] [] (tW I) 0 0 := by
    refine t_for fun k h1 ih hf => ?_
    refine hG _ _ _ _ _ _ ?_
    (conv => whnf)
    repeat' (first
      | ((with_reducible refine @And.intro (vp_in _ _) _ ?_ ?_); (· (first | with_reducible assumption | ((with_reducible refine t_vin ?_); decide) | ((with_reducible refine vp_in_nI ?_ ?_) <;> first | omega | decide) | (simp (disch := omega) only [xl_n, xl_m, nI_dec, nI_sb, nI_add, pk_mul]; (with_reducible refine vp_in_nI ?_ ?_) <;> first | omega | decide))); (conv => whnf))
      | (refine And.intro (by first | with_reducible assumption | exact (show tL _ = _ from rfl) | decide) ?_; (conv => whnf))
      | ((with_reducible refine @And.intro (_ = _) _ ?_ ?_); (· rfl); (conv => whnf))
      | ((with_reducible refine @And.intro (@LE.le Nat _ _ _) _ ?_ ?_); (· (first | exact Nat.zero_le _ | exact Nat.le_of_ble_eq_true rfl | omega)); (conv => whnf))
      | ((with_reducible refine @And.intro (@LT.lt Nat _ _ _) _ ?_ ?_); (· omega); (conv => whnf))
      | ((with_reducible refine @And.intro (∃ _, _ = _) _ ?_ ?_); (· exact ⟨_, rfl⟩); (conv => whnf))
      | ((with_reducible refine @And.intro (_ ∨ _) _ ?_ ?_); (· (first | exact Or.inl rfl | exact Or.inr rfl | exact t_b01 _ | assumption)); (conv => whnf))
      | ((with_reducible refine @And.intro (¬ (_ = _)) _ ?_ ?_); (· first | assumption | (with_reducible assumption)); (conv => whnf))
      | (refine hX _ _ _ _ _ _ ?_; (conv => whnf); fail_if_success show False)
      | (rw [t_si]; (conv => whnf))
      | (refine ⟨_, rfl, ?_⟩; (conv => whnf))
      | (refine ⟨_, _, rfl, ?_⟩; (conv => whnf))
      | (refine ⟨_, _, _, rfl, ?_⟩; (conv => whnf))
      | (refine ⟨_, _, _, _, rfl, ?_⟩; (conv => whnf))
      | fail)
    refine And.intro (fun c => ?_) (fun c => ?_) <;> (conv => whnf)
    · repeat' (first
        | ((with_reducible refine @And.intro (vp_in _ _) _ ?_ ?_); (· (first | with_reducible assumption | ((with_reducible refine t_vin ?_); decide) | ((with_reducible refine vp_in_nI ?_ ?_) <;> first | omega | decide) | (simp (disch := omega) only [xl_n, xl_m, nI_dec, nI_sb, nI_add, pk_mul]; (with_reducible refine vp_in_nI ?_ ?_) <;> first | omega | decide))); (conv => whnf))
        | (refine And.intro (by first | with_reducible assumption | exact (show tL _ = _ from rfl) | decide) ?_; (conv => whnf))
        | ((with_reducible refine @And.intro (_ = _) _ ?_ ?_); (· rfl); (conv => whnf))
        | ((with_reducible refine @And.intro (@LE.le Nat _ _ _) _ ?_ ?_); (· (first | exact Nat.zero_le _ | exact Nat.le_of_ble_eq_true rfl | omega)); (conv => whnf))
        | ((with_reducible refine @And.intro (@LT.lt Nat _ _ _) _ ?_ ?_); (· omega); (conv => whnf))
        | ((with_reducible refine @And.intro (∃ _, _ = _) _ ?_ ?_); (· exact ⟨_, rfl⟩); (conv => whnf))
        | ((with_reducible refine @And.intro (_ ∨ _) _ ?_ ?_); (· (first | exact Or.inl rfl | exact Or.inr rfl | exact t_b01 _ | assumption)); (conv => whnf))
        | ((with_reducible refine @And.intro (¬ (_ = _)) _ ?_ ?_); (· first | assumption | (with_reducible assumption)); (conv => whnf))
        | (refine hX _ _ _ _ _ _ ?_; (conv => whnf); fail_if_success show False)
        | (rw [t_si]; (conv => whnf))
        | (refine ⟨_, rfl, ?_⟩; (conv => whnf))
        | (refine ⟨_, _, rfl, ?_⟩; (conv => whnf))
        | (refine ⟨_, _, _, rfl, ?_⟩; (conv => whnf))
        | (refine ⟨_, _, _, _, rfl, ?_⟩; (conv => whnf))
        | fail)
      have : k = t_p I := Nat.le_antisymm h1 (t_kge hn c (by omega) (by omega))
      subst this
      have e : g_kin (tK I) (tA I row) p h = false := hf
      rw [e] at hQ
      exact hQ
    · have hk : k < t_p I := t_klt hn c (by omega)
      repeat' (first
        | ((with_reducible refine @And.intro (vp_in _ _) _ ?_ ?_); (· (first | with_reducible assumption | ((with_reducible refine t_vin ?_); decide) | ((with_reducible refine vp_in_nI ?_ ?_) <;> first | omega | decide) | (simp (disch := omega) only [xl_n, xl_m, nI_dec, nI_sb, nI_add, pk_mul]; (with_reducible refine vp_in_nI ?_ ?_) <;> first | omega | decide))); (conv => whnf))
        | (refine And.intro (by first | with_reducible assumption | exact (show tL _ = _ from rfl) | decide) ?_; (conv => whnf))
        | ((with_reducible refine @And.intro (_ = _) _ ?_ ?_); (· rfl); (conv => whnf))
        | ((with_reducible refine @And.intro (@LE.le Nat _ _ _) _ ?_ ?_); (· (first | exact Nat.zero_le _ | exact Nat.le_of_ble_eq_true rfl | omega)); (conv => whnf))
        | ((with_reducible refine @And.intro (@LT.lt Nat _ _ _) _ ?_ ?_); (· omega); (conv => whnf))
        | ((with_reducible refine @And.intro (∃ _, _ = _) _ ?_ ?_); (· exact ⟨_, rfl⟩); (conv => whnf))
        | ((with_reducible refine @And.intro (_ ∨ _) _ ?_ ?_); (· (first | exact Or.inl rfl | exact Or.inr rfl | exact t_b01 _ | assumption)); (conv => whnf))
        | ((with_reducible refine @And.intro (¬ (_ = _)) _ ?_ ?_); (· first | assumption | (with_reducible assumption)); (conv => whnf))
        | (refine hX _ _ _ _ _ _ ?_; (conv => whnf); fail_if_success show False)
        | (rw [t_si]; (conv => whnf))
        | (refine ⟨_, rfl, ?_⟩; (conv => whnf))
        | (refine ⟨_, _, rfl, ?_⟩; (conv => whnf))
        | (refine ⟨_, _, _, rfl, ?_⟩; (conv => whnf))
        | (refine ⟨_, _, _, _, rfl, ?_⟩; (conv => whnf))
        | (rw [t_lrow hr]; (conv => whnf))
        | (refine And.intro (fun c => ?_) (fun c => ?_) <;> (first | (exact absurd c (by decide +kernel)) | (conv => whnf)))
        | fail)
      all_goals simp (disch := omega) only [xl_n, xl_m, nI_dec, nI_sb, xl_0, xl_1, tW_i, t_bn0, t_bn1, Classical.not_not, t_lt, nI_add, nI_1, pk_mul, nI_clamp, t_si, nI_eq, nI_leI, nM_ne, nM_ne, xm_set, xm_lv0, xm_psh, tA_gw] at *
      · refine ih (k + 1) (by omega) (by omega) (t_ex_f hf ?_)
        simp [*]
      · refine ih (k + 1) (by omega) (by omega) (t_ex_f hf ?_)
        simp [tA_gw (show k < 8 by omega), *]
      · refine ih (k + 1) (by omega) (by omega) (t_ex_f hf ?_)
        simp [tA_gw (show k < 8 by omega), t_bit, *]
      · have e : g_kin (tK I) (tA I row) p h = true := t_ex_t hk (by simp [tA_gw (show k < 8 by omega), t_bit, *])
        rw [e] at hQ
        exact hQ
  refine ⟨rfl, ?_⟩
  repeat' (first
    | ((with_reducible refine @And.intro (vp_in _ _) _ ?_ ?_); (· (first | with_reducible assumption | ((with_reducible refine t_vin ?_); decide) | ((with_reducible refine vp_in_nI ?_ ?_) <;> first | omega | decide) | (simp (disch := omega) only [xl_n, xl_m, nI_dec, nI_sb, nI_add, pk_mul]; (with_reducible refine vp_in_nI ?_ ?_) <;> first | omega | decide))); (conv => whnf))
    | (refine And.intro (by first | with_reducible assumption | exact (show tL _ = _ from rfl) | decide) ?_; (conv => whnf))
    | ((with_reducible refine @And.intro (_ = _) _ ?_ ?_); (· rfl); (conv => whnf))
    | ((with_reducible refine @And.intro (@LE.le Nat _ _ _) _ ?_ ?_); (· (first | exact Nat.zero_le _ | exact Nat.le_of_ble_eq_true rfl | omega)); (conv => whnf))
    | ((with_reducible refine @And.intro (@LT.lt Nat _ _ _) _ ?_ ?_); (· omega); (conv => whnf))
    | ((with_reducible refine @And.intro (∃ _, _ = _) _ ?_ ?_); (· exact ⟨_, rfl⟩); (conv => whnf))
    | ((with_reducible refine @And.intro (_ ∨ _) _ ?_ ?_); (· (first | exact Or.inl rfl | exact Or.inr rfl | exact t_b01 _ | assumption)); (conv => whnf))
    | ((with_reducible refine @And.intro (¬ (_ = _)) _ ?_ ?_); (· first | assumption | (with_reducible assumption)); (conv => whnf))
    | (refine hX _ _ _ _ _ _ ?_; (conv => whnf); fail_if_success show False)
    | (rw [t_si]; (conv => whnf))
    | (refine ⟨_, rfl, ?_⟩; (conv => whnf))
    | (refine ⟨_, _, rfl, ?_⟩; (conv => whnf))
    | (refine ⟨_, _, _, rfl, ?_⟩; (conv => whnf))
    | (refine ⟨_, _, _, _, rfl, ?_⟩; (conv => whnf))
    | (rw [t_lrow hr]; (conv => whnf))
    | (refine And.intro (fun c => ?_) (fun c => ?_) <;> (first | (exact absurd c (by decide +kernel)) | (conv => whnf)))
    | fail)
  all_goals clear hX hG hQ
  all_goals simp (disch := omega) only [xl_n, xl_m, nI_dec, nI_sb, xl_0, xl_1, tW_i, t_bn0, t_bn1, Classical.not_not, t_lt, nI_add, nI_1, pk_mul, nI_clamp, t_si, nI_eq, nI_leI, nM_ne, nM_ne, xm_set, xm_lv0, xm_psh] at *
  all_goals have := loop 0 (Nat.zero_le _) rfl
  all_goals simpa [g_with, tA_gw hp, tA_gl hp, c] using this
theorem ct_X11_kinOf {Iv : xI} (hI : xm_good Iv) : xm_Ct Iv yX11_kinOf (ws_ yX11_kinOf cX11_kinOf 6 (some .int)) 2 0 0 S_X11_kinOf := xm_enter (rt := 0) (init := false) (by decide +kernel) rfl (fun h => by cases h) (Or.inl ⟨rfl, rfl⟩) (oX11_kinOf hI) body_X11_kinOf
theorem cv_X11_kinOf {Iv : xI} {own : String} {cc : ByteArray} {fr pc idx : Nat} (hI : xm_good Iv) (hdg : decode cc pc = .ok (.invokevirtual idx, 3)) (hl : xm_ml own idx yX11_kinOf) (hfr : 2 < fr) : xm_CallOK Iv own cc fr pc (pc + 3) 4 0 0 (xm_this 8 S_X11_kinOf) := xm_callV 8 hI (ct_X11_kinOf hI) hdg hl q2349 qs92 q145 q2350 rfl rfl (by decide +kernel) hfr (by decide)
abbrev bX11_mayWork_0 : List xE := [(.aload_n 0, 1, 0, 0, 0), (.aload_n 1, 2, 0, 0, 0), (.iload_n 3, 3, 0, 0, 0), (.invokevirtual 320, 6, 0, 0, 9), (.ifCond .eq 45, 9, 0, 51, 0), (.aload_n 1, 10, 0, 0, 0), (.iconst 1, 11, 0, 0, 0), (.iload_n 2, 12, 0, 0, 0), (.iadd, 13, 0, 0, 0), (.iaload, 14, 0, 0, 0), (.iload_n 3, 15, 0, 0, 0), (.invokestatic 242, 18, 0, 1, 9), (.ifCond .ne 33, 21, 0, 51, 0), (.aload_n 0, 22, 0, 0, 0), (.getfield 35, 25, 8, 16, 1), (.iload_n 2, 26, 0, 0, 0), (.iaload, 27, 0, 0, 0), (.iload_n 3, 28, 0, 0, 0), (.invokestatic 242, 31, 0, 1, 9), (.ifCond .ne 20, 34, 0, 51, 0), (.aload_n 0, 35, 0, 0, 0), (.aload_n 1, 36, 0, 0, 0), (.iload_n 3, 37, 0, 0, 0), (.invokevirtual 334, 40, 0, 2, 9), (.invokestatic 246, 43, 0, 3, 9), (.iconst 3, 44, 0, 0, 0), (.if_icmp .ge 7, 47, 0, 51, 0), (.iconst 1, 48, 0, 0, 0), (.goto 4, 51, 0, 52, 0)]
abbrev bX11_mayWork_51 : List xE := [(.iconst 0, 52, 0, 0, 0)]
abbrev bX11_mayWork_52 : List xE := [(.ireturn, 53, 0, 0, 0)]
abbrev kX11_mayWork : List (Nat × List xE) := [(0, bX11_mayWork_0), (51, bX11_mayWork_51), (52, bX11_mayWork_52)]
abbrev lX11_mayWork : List (Nat × Nat × Nat × xS) := [(3, 0, 0, xm_this 8 S_X11_isAlive), (2, 0, 0, S_X11_has), (3, 0, 0, xm_this 8 S_X11_workOf), (1, 0, 0, S_X11_ones)]
theorem oX11_mayWork_0 {Iv : xI} (hI : xm_good Iv)  : xm_okb Iv RX11 cX11_mayWork false 3 lX11_mayWork bX11_mayWork_0 0 := xo_0 dX11_mayWork_0 rfl trivial (xo_0 dX11_mayWork_1 rfl trivial (xo_0 dX11_mayWork_2 rfl trivial (xo_c rfl (cv_X11_isAlive hI dX11_mayWork_3 (Or.inl q2292) (by decide)) (xo_0 dX11_mayWork_6 rfl rfl (xo_0 dX11_mayWork_9 rfl trivial (xo_0 dX11_mayWork_10 rfl trivial (xo_0 dX11_mayWork_11 rfl trivial (xo_0 dX11_mayWork_12 rfl trivial (xo_0 dX11_mayWork_13 rfl trivial (xo_0 dX11_mayWork_14 rfl trivial (xo_c rfl (cv_X11_has hI dX11_mayWork_15 (Or.inl q1945) (by decide)) (xo_0 dX11_mayWork_18 rfl rfl (xo_0 dX11_mayWork_21 rfl trivial (xo_1 dX11_mayWork_22 rfl (xm_fg_of (Or.inl q1971) (by decide) rfl (by decide) rfl rfl (Or.inl rfl) rfl) (xo_0 dX11_mayWork_25 rfl trivial (xo_0 dX11_mayWork_26 rfl trivial (xo_0 dX11_mayWork_27 rfl trivial (xo_c rfl (cv_X11_has hI dX11_mayWork_28 (Or.inl q1945) (by decide)) (xo_0 dX11_mayWork_31 rfl rfl (xo_0 dX11_mayWork_34 rfl trivial (xo_0 dX11_mayWork_35 rfl trivial (xo_0 dX11_mayWork_36 rfl trivial (xo_c rfl (cv_X11_workOf hI dX11_mayWork_37 (Or.inl q2308) (by decide)) (xo_c rfl (cv_X11_ones hI dX11_mayWork_40 (Or.inl q2218) (by decide)) (xo_0 dX11_mayWork_43 rfl trivial (xo_0 dX11_mayWork_44 rfl rfl (xo_0 dX11_mayWork_47 rfl trivial (xo_0 dX11_mayWork_48 rfl rfl (xo_n)))))))))))))))))))))))))))))
theorem oX11_mayWork_51 {Iv : xI} (hI : xm_good Iv)  : xm_okb Iv RX11 cX11_mayWork false 3 lX11_mayWork bX11_mayWork_51 51 := xo_0 dX11_mayWork_51 rfl trivial (xo_n)
theorem oX11_mayWork_52 {Iv : xI} (hI : xm_good Iv)  : xm_okb Iv RX11 cX11_mayWork false 3 lX11_mayWork bX11_mayWork_52 52 := xo_0 dX11_mayWork_52 rfl trivial (xo_n)
theorem oX11_mayWork {Iv : xI} (hI : xm_good Iv)  : ∀ q ∈ kX11_mayWork, xm_okb Iv RX11 cX11_mayWork false 3 lX11_mayWork q.2 q.1 := by
  intro q hq
  simp only [List.mem_cons, List.not_mem_nil, or_false] at hq
  rcases hq with rfl | rfl | rfl
  · exact oX11_mayWork_0 hI  
  · exact oX11_mayWork_51 hI  
  · exact oX11_mayWork_52 hI  
def S_X11_mayWork : xS := tU fun as I Q => ∃ row p h, as = [.ref 0, .ref row, .int (nI p), .int (nI h)] ∧ t_row row ∧ t_ok I ∧ p < t_p I ∧ h < t_h I ∧ Q (some (.int (t_b (g_may (tK I) (tA I row) p h)))) I
theorem body_X11_mayWork : xm_Body 4 1 0 0 [] lX11_mayWork kX11_mayWork S_X11_mayWork := by
  intro X avs w Q QX hX0 hS
  have hG := xm_go [] hX0
  have hX := xm_go [] hX0
  clear hX0
  obtain ⟨I, rfl, row, p, h, rfl, hr, hok, hp, hh, hQ⟩ := hS
  have h8 : p < 8 := Nat.lt_of_lt_of_le hp hok.2.2.2.1
  refine ⟨rfl, ?_⟩
  repeat' (first
    | ((with_reducible refine @And.intro (vp_in _ _) _ ?_ ?_); (· (first | with_reducible assumption | ((with_reducible refine t_vin ?_); decide) | ((with_reducible refine vp_in_nI ?_ ?_) <;> first | omega | decide) | (simp (disch := omega) only [xl_n, xl_m, nI_dec, nI_sb, nI_add, pk_mul]; (with_reducible refine vp_in_nI ?_ ?_) <;> first | omega | decide))); (conv => whnf))
    | (refine And.intro (by first | with_reducible assumption | exact (show tL _ = _ from rfl) | decide) ?_; (conv => whnf))
    | ((with_reducible refine @And.intro (_ = _) _ ?_ ?_); (· rfl); (conv => whnf))
    | ((with_reducible refine @And.intro (@LE.le Nat _ _ _) _ ?_ ?_); (· (first | exact Nat.zero_le _ | exact Nat.le_of_ble_eq_true rfl | omega)); (conv => whnf))
    | ((with_reducible refine @And.intro (@LT.lt Nat _ _ _) _ ?_ ?_); (· omega); (conv => whnf))
    | ((with_reducible refine @And.intro (∃ _, _ = _) _ ?_ ?_); (· exact ⟨_, rfl⟩); (conv => whnf))
    | ((with_reducible refine @And.intro (_ ∨ _) _ ?_ ?_); (· (first | exact Or.inl rfl | exact Or.inr rfl | exact t_b01 _ | assumption)); (conv => whnf))
    | ((with_reducible refine @And.intro (¬ (_ = _)) _ ?_ ?_); (· first | assumption | (with_reducible assumption)); (conv => whnf))
    | (refine hX _ _ _ _ _ _ ?_; (conv => whnf); fail_if_success show False)
    | (rw [t_si]; (conv => whnf))
    | (refine ⟨_, rfl, ?_⟩; (conv => whnf))
    | (refine ⟨_, _, rfl, ?_⟩; (conv => whnf))
    | (refine ⟨_, _, _, rfl, ?_⟩; (conv => whnf))
    | (refine ⟨_, _, _, _, rfl, ?_⟩; (conv => whnf))
    | (rw [t_lrow hr]; (conv => whnf))
    | (refine And.intro (fun c => ?_) (fun c => ?_) <;> (first | (exact absurd c (by decide +kernel)) | (conv => whnf)))
    | fail)
  all_goals refine t_q hQ ?_
  all_goals clear hX hG
  all_goals simp (disch := omega) only [xl_n, xl_m, nI_dec, nI_sb, xl_0, xl_1, tW_i, t_bn0, t_bn1, Classical.not_not, t_lt, nI_add, nI_1, pk_mul, nI_clamp, t_si, nI_eq, nI_leI, nM_ne, nM_ne] at *
  · simp [*, g_may, t_bf]
  · simp [*, g_may, t_bf, tA_gw h8]
  · simp [*, g_may, t_bf, tK_quar hp]
  · simp [*, g_may, t_bf, tA_gw h8]
  · simp [*, g_may, t_bt, tA_gw h8, tK_quar hp]
theorem ct_X11_mayWork {Iv : xI} (hI : xm_good Iv) : xm_Ct Iv yX11_mayWork (ws_ yX11_mayWork cX11_mayWork 4 (some .boolean)) 3 0 0 S_X11_mayWork := xm_enter (rt := 1) (init := false) (by decide +kernel) rfl (fun h => by cases h) (Or.inr (Or.inl ⟨rfl, Or.inl rfl⟩)) (oX11_mayWork hI) body_X11_mayWork
theorem cv_X11_mayWork {Iv : xI} {own : String} {cc : ByteArray} {fr pc idx : Nat} (hI : xm_good Iv) (hdg : decode cc pc = .ok (.invokevirtual idx, 3)) (hl : xm_ml own idx yX11_mayWork) (hfr : 3 < fr) : xm_CallOK Iv own cc fr pc (pc + 3) 4 0 0 (xm_this 8 S_X11_mayWork) := xm_callV 8 hI (ct_X11_mayWork hI) hdg hl q2368 qs95 q145 q2369 rfl rfl (by decide +kernel) hfr (by decide)
abbrev bX11_by_0 : List xE := [(.iload_n 0, 1, 0, 0, 0), (.tableswitch 96 2 7 #[39, 43, 47, 51, 73, 90], 40, 0, 0, 0)]
abbrev bX11_by_40 : List xE := [(.iload_n 1, 41, 0, 0, 0), (.iload_n 2, 42, 0, 0, 0), (.iadd, 43, 0, 0, 0), (.ireturn, 44, 0, 0, 0)]
abbrev bX11_by_44 : List xE := [(.iload_n 1, 45, 0, 0, 0), (.iload_n 2, 46, 0, 0, 0), (.isub, 47, 0, 0, 0), (.ireturn, 48, 0, 0, 0)]
abbrev bX11_by_48 : List xE := [(.iload_n 1, 49, 0, 0, 0), (.iload_n 2, 50, 0, 0, 0), (.imul, 51, 0, 0, 0), (.ireturn, 52, 0, 0, 0)]
abbrev bX11_by_52 : List xE := [(.iload_n 2, 53, 0, 0, 0), (.ifCond .ne 7, 56, 0, 60, 0), (.iconst 0, 57, 0, 0, 0), (.goto 16, 60, 0, 73, 0)]
abbrev bX11_by_60 : List xE := [(.iload_n 2, 61, 0, 0, 0), (.iconst (-1), 62, 0, 0, 0), (.if_icmp .ne 8, 65, 0, 70, 0), (.iload_n 1, 66, 0, 0, 0), (.ineg, 67, 0, 0, 0), (.goto 6, 70, 0, 73, 0)]
abbrev bX11_by_70 : List xE := [(.iload_n 1, 71, 0, 0, 0), (.iload_n 2, 72, 0, 0, 0), (.idiv, 73, 0, 0, 0)]
abbrev bX11_by_73 : List xE := [(.ireturn, 74, 0, 0, 0)]
abbrev bX11_by_74 : List xE := [(.iload_n 2, 75, 0, 0, 0), (.ifCond .eq 8, 78, 0, 83, 0), (.iload_n 2, 79, 0, 0, 0), (.iconst (-1), 80, 0, 0, 0), (.if_icmp .ne 7, 83, 0, 87, 0)]
abbrev bX11_by_83 : List xE := [(.iconst 0, 84, 0, 0, 0), (.goto 6, 87, 0, 90, 0)]
abbrev bX11_by_87 : List xE := [(.iload_n 1, 88, 0, 0, 0), (.iload_n 2, 89, 0, 0, 0), (.irem, 90, 0, 0, 0)]
abbrev bX11_by_90 : List xE := [(.ireturn, 91, 0, 0, 0)]
abbrev bX11_by_91 : List xE := [(.iload_n 1, 92, 0, 0, 0), (.iload_n 2, 93, 0, 0, 0), (.invokestatic 229, 96, 0, 0, 9), (.ireturn, 97, 0, 0, 0)]
abbrev bX11_by_97 : List xE := [(.iload_n 1, 98, 0, 0, 0), (.iload_n 2, 99, 0, 0, 0), (.invokestatic 313, 102, 0, 1, 9), (.ireturn, 103, 0, 0, 0)]
abbrev kX11_by : List (Nat × List xE) := [(0, bX11_by_0), (40, bX11_by_40), (44, bX11_by_44), (48, bX11_by_48), (52, bX11_by_52), (60, bX11_by_60), (70, bX11_by_70), (73, bX11_by_73), (74, bX11_by_74), (83, bX11_by_83), (87, bX11_by_87), (90, bX11_by_90), (91, bX11_by_91), (97, bX11_by_97)]
abbrev lX11_by : List (Nat × Nat × Nat × xS) := [(2, 0, 0, S_X11_less), (2, 0, 0, S_X11_more)]
theorem oX11_by_0 {Iv : xI} (hI : xm_good Iv)  : xm_okb Iv RX11 cX11_by false 2 lX11_by bX11_by_0 0 := xo_0 dX11_by_0 rfl trivial (xo_s dX11_by_1 rfl (xo_tableswitch (by decide +kernel)) (xo_n))
theorem oX11_by_40 {Iv : xI} (hI : xm_good Iv)  : xm_okb Iv RX11 cX11_by false 2 lX11_by bX11_by_40 40 := xo_0 dX11_by_40 rfl trivial (xo_0 dX11_by_41 rfl trivial (xo_0 dX11_by_42 rfl trivial (xo_0 dX11_by_43 rfl trivial (xo_n))))
theorem oX11_by_44 {Iv : xI} (hI : xm_good Iv)  : xm_okb Iv RX11 cX11_by false 2 lX11_by bX11_by_44 44 := xo_0 dX11_by_44 rfl trivial (xo_0 dX11_by_45 rfl trivial (xo_0 dX11_by_46 rfl trivial (xo_0 dX11_by_47 rfl trivial (xo_n))))
theorem oX11_by_48 {Iv : xI} (hI : xm_good Iv)  : xm_okb Iv RX11 cX11_by false 2 lX11_by bX11_by_48 48 := xo_0 dX11_by_48 rfl trivial (xo_0 dX11_by_49 rfl trivial (xo_0 dX11_by_50 rfl trivial (xo_0 dX11_by_51 rfl trivial (xo_n))))
theorem oX11_by_52 {Iv : xI} (hI : xm_good Iv)  : xm_okb Iv RX11 cX11_by false 2 lX11_by bX11_by_52 52 := xo_0 dX11_by_52 rfl trivial (xo_0 dX11_by_53 rfl rfl (xo_0 dX11_by_56 rfl trivial (xo_0 dX11_by_57 rfl rfl (xo_n))))
theorem oX11_by_60 {Iv : xI} (hI : xm_good Iv)  : xm_okb Iv RX11 cX11_by false 2 lX11_by bX11_by_60 60 := xo_0 dX11_by_60 rfl trivial (xo_0 dX11_by_61 rfl trivial (xo_0 dX11_by_62 rfl rfl (xo_0 dX11_by_65 rfl trivial (xo_0 dX11_by_66 rfl trivial (xo_0 dX11_by_67 rfl rfl (xo_n))))))
theorem oX11_by_70 {Iv : xI} (hI : xm_good Iv)  : xm_okb Iv RX11 cX11_by false 2 lX11_by bX11_by_70 70 := xo_0 dX11_by_70 rfl trivial (xo_0 dX11_by_71 rfl trivial (xo_0 dX11_by_72 rfl trivial (xo_n)))
theorem oX11_by_73 {Iv : xI} (hI : xm_good Iv)  : xm_okb Iv RX11 cX11_by false 2 lX11_by bX11_by_73 73 := xo_0 dX11_by_73 rfl trivial (xo_n)
theorem oX11_by_74 {Iv : xI} (hI : xm_good Iv)  : xm_okb Iv RX11 cX11_by false 2 lX11_by bX11_by_74 74 := xo_0 dX11_by_74 rfl trivial (xo_0 dX11_by_75 rfl rfl (xo_0 dX11_by_78 rfl trivial (xo_0 dX11_by_79 rfl trivial (xo_0 dX11_by_80 rfl rfl (xo_n)))))
theorem oX11_by_83 {Iv : xI} (hI : xm_good Iv)  : xm_okb Iv RX11 cX11_by false 2 lX11_by bX11_by_83 83 := xo_0 dX11_by_83 rfl trivial (xo_0 dX11_by_84 rfl rfl (xo_n))
theorem oX11_by_87 {Iv : xI} (hI : xm_good Iv)  : xm_okb Iv RX11 cX11_by false 2 lX11_by bX11_by_87 87 := xo_0 dX11_by_87 rfl trivial (xo_0 dX11_by_88 rfl trivial (xo_0 dX11_by_89 rfl trivial (xo_n)))
theorem oX11_by_90 {Iv : xI} (hI : xm_good Iv)  : xm_okb Iv RX11 cX11_by false 2 lX11_by bX11_by_90 90 := xo_0 dX11_by_90 rfl trivial (xo_n)
theorem oX11_by_91 {Iv : xI} (hI : xm_good Iv)  : xm_okb Iv RX11 cX11_by false 2 lX11_by bX11_by_91 91 := xo_0 dX11_by_91 rfl trivial (xo_0 dX11_by_92 rfl trivial (xo_c rfl (cv_X11_less hI dX11_by_93 (Or.inl q2229) (by decide)) (xo_0 dX11_by_96 rfl trivial (xo_n))))
theorem oX11_by_97 {Iv : xI} (hI : xm_good Iv)  : xm_okb Iv RX11 cX11_by false 2 lX11_by bX11_by_97 97 := xo_0 dX11_by_97 rfl trivial (xo_0 dX11_by_98 rfl trivial (xo_c rfl (cv_X11_more hI dX11_by_99 (Or.inl q2312) (by decide)) (xo_0 dX11_by_102 rfl trivial (xo_n))))
theorem oX11_by {Iv : xI} (hI : xm_good Iv)  : ∀ q ∈ kX11_by, xm_okb Iv RX11 cX11_by false 2 lX11_by q.2 q.1 := by
  intro q hq
  simp only [List.mem_cons, List.not_mem_nil, or_false] at hq
  rcases hq with rfl | rfl | rfl | rfl | rfl | rfl | rfl | rfl | rfl | rfl | rfl | rfl | rfl | rfl
  · exact oX11_by_0 hI  
  · exact oX11_by_40 hI  
  · exact oX11_by_44 hI  
  · exact oX11_by_48 hI  
  · exact oX11_by_52 hI  
  · exact oX11_by_60 hI  
  · exact oX11_by_70 hI  
  · exact oX11_by_73 hI  
  · exact oX11_by_74 hI  
  · exact oX11_by_83 hI  
  · exact oX11_by_87 hI  
  · exact oX11_by_90 hI  
  · exact oX11_by_91 hI  
  · exact oX11_by_97 hI  
def S_X11_by : xS := fun as w Q _ => ∃ c u v, as = [.int (nI c), .int u, .int v] ∧ 2 ≤ c ∧ c ≤ 8 ∧ Q (some (.int (t_by (nI c) u v))) w
theorem body_X11_by : xm_Body 3 0 0 0 [] lX11_by kX11_by S_X11_by := by
  intro X avs w Q QX hX0 hS
  have hG := xm_go [] hX0
  have hX := xm_go [] hX0
  clear hX0
  obtain ⟨c0, u, v, rfl, hc2, hc8, hQ⟩ := hS
  refine ⟨rfl, ?_⟩
  have : c0 = 2 ∨ c0 = 3 ∨ c0 = 4 ∨ c0 = 5 ∨ c0 = 6 ∨ c0 = 7 ∨ c0 = 8 := by omega
  rcases this with rfl | rfl | rfl | rfl | rfl | rfl | rfl <;> refine hG _ _ _ _ _ _ ?_ <;> (conv => whnf) <;> simp (disch := omega) [xm_tsw, xm_tgt, xl_n, nI_eq, nI_toInt]
  all_goals simp only [t_by2, t_by3, t_by4, t_by5, t_by6, t_by7, t_by8] at hQ
  all_goals repeat' (first
    | ((with_reducible refine @And.intro (vp_in _ _) _ ?_ ?_); (· (first | with_reducible assumption | ((with_reducible refine t_vin ?_); decide) | ((with_reducible refine vp_in_nI ?_ ?_) <;> first | omega | decide) | (simp (disch := omega) only [xl_n, xl_m, nI_dec, nI_sb, nI_add, pk_mul]; (with_reducible refine vp_in_nI ?_ ?_) <;> first | omega | decide))); (conv => whnf))
    | (refine And.intro (by first | with_reducible assumption | exact (show tL _ = _ from rfl) | decide) ?_; (conv => whnf))
    | ((with_reducible refine @And.intro (_ = _) _ ?_ ?_); (· rfl); (conv => whnf))
    | ((with_reducible refine @And.intro (@LE.le Nat _ _ _) _ ?_ ?_); (· (first | exact Nat.zero_le _ | exact Nat.le_of_ble_eq_true rfl | omega)); (conv => whnf))
    | ((with_reducible refine @And.intro (@LT.lt Nat _ _ _) _ ?_ ?_); (· omega); (conv => whnf))
    | ((with_reducible refine @And.intro (∃ _, _ = _) _ ?_ ?_); (· exact ⟨_, rfl⟩); (conv => whnf))
    | ((with_reducible refine @And.intro (_ ∨ _) _ ?_ ?_); (· (first | exact Or.inl rfl | exact Or.inr rfl | exact t_b01 _ | assumption)); (conv => whnf))
    | ((with_reducible refine @And.intro (¬ (_ = _)) _ ?_ ?_); (· first | assumption | (with_reducible assumption)); (conv => whnf))
    | (refine hX _ _ _ _ _ _ ?_; (conv => whnf); fail_if_success show False)
    | (rw [t_si]; (conv => whnf))
    | (refine ⟨_, rfl, ?_⟩; (conv => whnf))
    | (refine ⟨_, _, rfl, ?_⟩; (conv => whnf))
    | (refine ⟨_, _, _, rfl, ?_⟩; (conv => whnf))
    | (refine ⟨_, _, _, _, rfl, ?_⟩; (conv => whnf))
    | (refine And.intro (fun c => ?_) (fun c => ?_) <;> (first | (exact absurd c (by decide +kernel)) | (conv => whnf)))
    | fail)
  all_goals refine t_q hQ ?_
  all_goals clear hX hG
  all_goals simp (disch := omega) only [xl_n, xl_m, nI_dec, nI_sb, xl_0, xl_1, tW_i, t_bn0, t_bn1, Classical.not_not, t_lt, nI_add, nI_1, pk_mul, nI_clamp, t_si, nI_eq, nI_leI, nM_ne, nM_ne] at *
  all_goals simp [*, show ¬ nM = nI 0 from nM_ne' (by decide)]
theorem ct_X11_by {Iv : xI} (hI : xm_good Iv) : xm_Ct Iv yX11_by (ws_ yX11_by cX11_by 3 (some .int)) 2 0 0 S_X11_by := xm_enter (rt := 0) (init := false) (by decide +kernel) rfl (fun h => by cases h) (Or.inl ⟨rfl, rfl⟩) (oX11_by hI) body_X11_by
theorem cv_X11_by {Iv : xI} {own : String} {cc : ByteArray} {fr pc idx : Nat} (hI : xm_good Iv) (hdg : decode cc pc = .ok (.invokestatic idx, 3)) (hl : xm_ml own idx yX11_by) (hfr : 2 < fr) : xm_CallOK Iv own cc fr pc (pc + 3) 3 0 0 S_X11_by := xm_callS hI (ct_X11_by hI) hdg hl q2356 q145 q2357 (by decide +kernel) hfr (by decide)
