/-! ===== the reference: counts, wood, lies ===== -/
set_option maxRecDepth 100000
def q_status (G : gG) (a : Int32) : gR := g_says G (if t_in a (nI 0) (nI 1) = true then grefd G a.toNatClampNeg else nM)
abbrev bX11_status_0 : List xE := [(.aload_n 0, 1, 0, 0, 0), (.iconst 0, 2, 0, 0, 0), (.putfield 134, 5, 8, 0, 0), (.iload_n 1, 6, 0, 0, 0), (.iconst 0, 7, 0, 0, 0), (.iconst 1, 8, 0, 0, 0), (.invokestatic 168, 11, 0, 0, 9), (.ifCond .eq 12, 14, 0, 23, 0), (.aload_n 0, 15, 0, 0, 0), (.getfield 17, 18, 8, 10, 1), (.iload_n 1, 19, 0, 0, 0), (.iaload, 20, 0, 0, 0), (.goto 4, 23, 0, 24, 0)]
abbrev bX11_status_23 : List xE := [(.iconst (-1), 24, 0, 0, 0)]
abbrev bX11_status_24 : List xE := [(.ireturn, 25, 0, 0, 0)]
abbrev kX11_status : List (Nat × List xE) := [(0, bX11_status_0), (23, bX11_status_23), (24, bX11_status_24)]
abbrev lX11_status : List (Nat × Nat × Nat × xS) := [(3, 0, 0, S_X11_in)]
theorem oX11_status_0 {Iv : xI} (hI : xm_good Iv)  : xm_okb Iv RX11 cX11_status false 2 lX11_status bX11_status_0 0 := xo_0 dX11_status_0 rfl trivial (xo_0 dX11_status_1 rfl trivial (xo_0 dX11_status_2 rfl (xm_fp_of (xm_fg_of (Or.inl q1955) (by decide) rfl (by decide) rfl rfl (Or.inl rfl) rfl) (by decide) rfl (Or.inl ⟨rfl, rfl⟩) rfl) (xo_0 dX11_status_5 rfl trivial (xo_0 dX11_status_6 rfl trivial (xo_0 dX11_status_7 rfl trivial (xo_c rfl (cv_X11_in hI dX11_status_8 (Or.inl q1942) (by decide)) (xo_0 dX11_status_11 rfl rfl (xo_0 dX11_status_14 rfl trivial (xo_1 dX11_status_15 rfl (xm_fg_of (Or.inl q1965) (by decide) rfl (by decide) rfl rfl (Or.inl rfl) rfl) (xo_0 dX11_status_18 rfl trivial (xo_0 dX11_status_19 rfl trivial (xo_0 dX11_status_20 rfl rfl (xo_n)))))))))))))
theorem oX11_status_23 {Iv : xI} (hI : xm_good Iv)  : xm_okb Iv RX11 cX11_status false 2 lX11_status bX11_status_23 23 := xo_0 dX11_status_23 rfl trivial (xo_n)
theorem oX11_status_24 {Iv : xI} (hI : xm_good Iv)  : xm_okb Iv RX11 cX11_status false 2 lX11_status bX11_status_24 24 := xo_0 dX11_status_24 rfl trivial (xo_n)
theorem oX11_status {Iv : xI} (hI : xm_good Iv)  : ∀ q ∈ kX11_status, xm_okb Iv RX11 cX11_status false 2 lX11_status q.2 q.1 := by
  intro q hq
  simp only [List.mem_cons, List.not_mem_nil, or_false] at hq
  rcases hq with rfl | rfl | rfl
  · exact oX11_status_0 hI  
  · exact oX11_status_23 hI  
  · exact oX11_status_24 hI  
def S_X11_status : xS := tU fun as I Q => ∃ a, as = [.ref 0, .int a] ∧ t_good I ∧ t_P Q (q_status (tG I) a)
theorem body_X11_status : xm_Body 2 0 0 0 [] lX11_status kX11_status S_X11_status := by
  intro X avs w Q QX hX0 hS
  have hG := xm_go [] hX0
  have hX := xm_go [] hX0
  clear hX0
  obtain ⟨I, rfl, a, rfl, hg, hQ⟩ := hS
  refine ⟨rfl, ?_⟩
  repeat' (first
    | ((with_reducible refine @And.intro (vp_in _ _) _ ?_ ?_); (· (first | with_reducible assumption | ((with_reducible refine t_vin ?_); decide) | ((with_reducible refine vp_in_nI ?_ ?_) <;> first | omega | decide) | (simp (disch := omega) only [xl_n, xl_m, nI_dec, nI_sb, nI_add, pk_mul]; (with_reducible refine vp_in_nI ?_ ?_) <;> first | omega | decide))); (conv => whnf))
    | (refine And.intro (by first | with_reducible assumption | exact (show tL _ = _ from rfl) | decide) ?_; (conv => whnf))
    | ((with_reducible refine @And.intro (_ = _) _ ?_ ?_); (· rfl); (conv => whnf))
    | ((with_reducible refine @And.intro (@LE.le Nat _ _ _) _ ?_ ?_); (· (first | exact Nat.zero_le _ | exact Nat.le_of_ble_eq_true rfl | omega)); (conv => whnf))
    | ((with_reducible refine @And.intro (@LT.lt Nat _ _ _) _ ?_ ?_); (· omega); (conv => whnf))
    | ((with_reducible refine @And.intro (∃ _, _ = _) _ ?_ ?_); (· exact ⟨_, rfl⟩); (conv => whnf))
    | ((with_reducible refine @And.intro (_ ∨ _) _ ?_ ?_); (· (first | exact Or.inl rfl | exact Or.inr rfl | exact t_b01 _ | assumption)); (conv => whnf))
    | ((with_reducible refine @And.intro (¬ (_ = _)) _ ?_ ?_); (· first | assumption | (with_reducible assumption)); (conv => whnf))
    | (refine hX _ _ _ _ _ _ ?_; (conv => whnf); fail_if_success show False)
    | fail)
  rw [t_si]
  obtain ⟨J, hJ, hg1, hG1, h01⟩ := t_pub hg
  rw [← hJ]
  rw [← hG1] at hQ
  clear hJ hG1 hg I
  have hg := hg1
  have hok := hg.1
  have hl := hg.2.1
  have h8 := hok.2.2.2.1
  have h9 := hok.2.1
  (conv => whnf)
  rcases t_rc a 0 1 (L := Int32.ofInt 0) (H := Int32.ofInt 1) (by decide +kernel) (by decide +kernel) (by omega) (by omega) with ⟨n, -, hn, rfl, e1, f1⟩ | ⟨e1, f1⟩
  · rw [q_status, f1, if_pos rfl, nI_clamp (by omega)] at hQ
    repeat' (first
      | ((with_reducible refine @And.intro (vp_in _ _) _ ?_ ?_); (· (first | with_reducible assumption | ((with_reducible refine t_vin ?_); decide) | ((with_reducible refine vp_in_nI ?_ ?_) <;> first | omega | decide) | (simp (disch := omega) only [xl_n, xl_m, nI_dec, nI_sb, nI_add, pk_mul]; (with_reducible refine vp_in_nI ?_ ?_) <;> first | omega | decide))); (conv => whnf))
      | (refine And.intro (by first | with_reducible assumption | exact (show tL _ = _ from rfl) | decide) ?_; (conv => whnf))
      | ((with_reducible refine @And.intro (_ = _) _ ?_ ?_); (· rfl); (conv => whnf))
      | ((with_reducible refine @And.intro (@LE.le Nat _ _ _) _ ?_ ?_); (· (first | exact Nat.zero_le _ | exact Nat.le_of_ble_eq_true rfl | omega)); (conv => whnf))
      | ((with_reducible refine @And.intro (@LT.lt Nat _ _ _) _ ?_ ?_); (· omega); (conv => whnf))
      | ((with_reducible refine @And.intro (∃ _, _ = _) _ ?_ ?_); (· exact ⟨_, rfl⟩); (conv => whnf))
      | ((with_reducible refine @And.intro (_ ∨ _) _ ?_ ?_); (· (first | exact Or.inl rfl | exact Or.inr rfl | exact t_b01 _ | assumption)); (conv => whnf))
      | ((with_reducible refine @And.intro (¬ (_ = _)) _ ?_ ?_); (· first | assumption | (with_reducible assumption)); (conv => whnf))
      | (refine hX _ _ _ _ _ _ ?_; (conv => whnf); fail_if_success show False)
      | (rw [t_si]; (conv => whnf))
      | (refine ⟨_, rfl, ?_⟩; (conv => whnf))
      | (refine ⟨_, _, rfl, ?_⟩; (conv => whnf))
      | (refine ⟨_, _, _, rfl, ?_⟩; (conv => whnf))
      | (refine ⟨_, _, _, _, rfl, ?_⟩; (conv => whnf))
      | (rw [e1]; (conv => whnf))
      | (refine And.intro (fun c => ?_) (fun c => ?_) <;> (first | (exact absurd c (by decide +kernel)) | (conv => whnf)))
      | fail)
    refine t_ask hQ hg t_sp.rf h01 ?_
    clear hX hG hQ
    simp (disch := omega) only [xl_n, xl_m, nI_dec, nI_sb, xl_0, xl_1, tW_i, t_bn0, t_bn1, Classical.not_not, t_lt, nI_add, nI_1, pk_mul, nI_clamp, t_si, nI_eq, nI_leI, nM_ne, nM_ne] at *
    exact (if_pos (show n < 2 by omega)).symm
  · rw [q_status, f1] at hQ
    repeat' (first
      | ((with_reducible refine @And.intro (vp_in _ _) _ ?_ ?_); (· (first | with_reducible assumption | ((with_reducible refine t_vin ?_); decide) | ((with_reducible refine vp_in_nI ?_ ?_) <;> first | omega | decide) | (simp (disch := omega) only [xl_n, xl_m, nI_dec, nI_sb, nI_add, pk_mul]; (with_reducible refine vp_in_nI ?_ ?_) <;> first | omega | decide))); (conv => whnf))
      | (refine And.intro (by first | with_reducible assumption | exact (show tL _ = _ from rfl) | decide) ?_; (conv => whnf))
      | ((with_reducible refine @And.intro (_ = _) _ ?_ ?_); (· rfl); (conv => whnf))
      | ((with_reducible refine @And.intro (@LE.le Nat _ _ _) _ ?_ ?_); (· (first | exact Nat.zero_le _ | exact Nat.le_of_ble_eq_true rfl | omega)); (conv => whnf))
      | ((with_reducible refine @And.intro (@LT.lt Nat _ _ _) _ ?_ ?_); (· omega); (conv => whnf))
      | ((with_reducible refine @And.intro (∃ _, _ = _) _ ?_ ?_); (· exact ⟨_, rfl⟩); (conv => whnf))
      | ((with_reducible refine @And.intro (_ ∨ _) _ ?_ ?_); (· (first | exact Or.inl rfl | exact Or.inr rfl | exact t_b01 _ | assumption)); (conv => whnf))
      | ((with_reducible refine @And.intro (¬ (_ = _)) _ ?_ ?_); (· first | assumption | (with_reducible assumption)); (conv => whnf))
      | (refine hX _ _ _ _ _ _ ?_; (conv => whnf); fail_if_success show False)
      | (rw [t_si]; (conv => whnf))
      | (refine ⟨_, rfl, ?_⟩; (conv => whnf))
      | (refine ⟨_, _, rfl, ?_⟩; (conv => whnf))
      | (refine ⟨_, _, _, rfl, ?_⟩; (conv => whnf))
      | (refine ⟨_, _, _, _, rfl, ?_⟩; (conv => whnf))
      | (rw [e1]; (conv => whnf))
      | (refine And.intro (fun c => ?_) (fun c => ?_) <;> (first | (exact absurd c (by decide +kernel)) | (conv => whnf)))
      | fail)
    exact t_ask hQ hg t_sp.rf h01 xl_m
theorem ct_X11_status {Iv : xI} (hI : xm_good Iv) : xm_Ct Iv yX11_status (ws_ yX11_status cX11_status 2 (some .int)) 2 0 0 S_X11_status := xm_enter (rt := 0) (init := false) (by decide +kernel) rfl (fun h => by cases h) (Or.inl ⟨rfl, rfl⟩) (oX11_status hI) body_X11_status
theorem cv_X11_status {Iv : xI} {own : String} {cc : ByteArray} {fr pc idx : Nat} (hI : xm_good Iv) (hdg : decode cc pc = .ok (.invokevirtual idx, 3)) (hl : xm_ml own idx yX11_status) (hfr : 2 < fr) : xm_CallOK Iv own cc fr pc (pc + 3) 2 0 0 (xm_this 8 S_X11_status) := xm_callV 8 hI (ct_X11_status hI) hdg hl q2617 q2618 q145 q2619 rfl rfl (by decide +kernel) hfr (by decide)
def q_count (G : gG) (a : Int32) : gR := g_says G (if a = nI 0 then nI (gimn G) else if a = nI 1 then nI (gtape G) else if a = nI 2 then ggone G else nM)
abbrev bX11_count_0 : List xE := [(.aload_n 0, 1, 0, 0, 0), (.iconst 0, 2, 0, 0, 0), (.putfield 134, 5, 8, 0, 0), (.iload_n 1, 6, 0, 0, 0), (.ifCond .ne 10, 9, 0, 16, 0), (.aload_n 0, 10, 0, 0, 0), (.getfield 276, 13, 8, 43, 0), (.goto 28, 16, 0, 41, 0)]
abbrev bX11_count_16 : List xE := [(.iload_n 1, 17, 0, 0, 0), (.iconst 1, 18, 0, 0, 0), (.if_icmp .ne 10, 21, 0, 28, 0), (.aload_n 0, 22, 0, 0, 0), (.getfield 137, 25, 8, 1, 0), (.goto 16, 28, 0, 41, 0)]
abbrev bX11_count_28 : List xE := [(.iload_n 1, 29, 0, 0, 0), (.iconst 2, 30, 0, 0, 0), (.if_icmp .ne 10, 33, 0, 40, 0), (.aload_n 0, 34, 0, 0, 0), (.getfield 282, 37, 8, 42, 0), (.goto 4, 40, 0, 41, 0)]
abbrev bX11_count_40 : List xE := [(.iconst (-1), 41, 0, 0, 0)]
abbrev bX11_count_41 : List xE := [(.ireturn, 42, 0, 0, 0)]
abbrev kX11_count : List (Nat × List xE) := [(0, bX11_count_0), (16, bX11_count_16), (28, bX11_count_28), (40, bX11_count_40), (41, bX11_count_41)]
abbrev lX11_count : List (Nat × Nat × Nat × xS) := []
theorem oX11_count_0 {Iv : xI} (hI : xm_good Iv)  : xm_okb Iv RX11 cX11_count false 1 lX11_count bX11_count_0 0 := xo_0 dX11_count_0 rfl trivial (xo_0 dX11_count_1 rfl trivial (xo_0 dX11_count_2 rfl (xm_fp_of (xm_fg_of (Or.inl q1955) (by decide) rfl (by decide) rfl rfl (Or.inl rfl) rfl) (by decide) rfl (Or.inl ⟨rfl, rfl⟩) rfl) (xo_0 dX11_count_5 rfl trivial (xo_0 dX11_count_6 rfl rfl (xo_0 dX11_count_9 rfl trivial (xo_0 dX11_count_10 rfl (xm_fg_of (Or.inl q1998) (by decide) rfl (by decide) rfl rfl (Or.inl rfl) rfl) (xo_0 dX11_count_13 rfl rfl (xo_n))))))))
theorem oX11_count_16 {Iv : xI} (hI : xm_good Iv)  : xm_okb Iv RX11 cX11_count false 1 lX11_count bX11_count_16 16 := xo_0 dX11_count_16 rfl trivial (xo_0 dX11_count_17 rfl trivial (xo_0 dX11_count_18 rfl rfl (xo_0 dX11_count_21 rfl trivial (xo_0 dX11_count_22 rfl (xm_fg_of (Or.inl q1956) (by decide) rfl (by decide) rfl rfl (Or.inl rfl) rfl) (xo_0 dX11_count_25 rfl rfl (xo_n))))))
theorem oX11_count_28 {Iv : xI} (hI : xm_good Iv)  : xm_okb Iv RX11 cX11_count false 1 lX11_count bX11_count_28 28 := xo_0 dX11_count_28 rfl trivial (xo_0 dX11_count_29 rfl trivial (xo_0 dX11_count_30 rfl rfl (xo_0 dX11_count_33 rfl trivial (xo_0 dX11_count_34 rfl (xm_fg_of (Or.inl q1997) (by decide) rfl (by decide) rfl rfl (Or.inl rfl) rfl) (xo_0 dX11_count_37 rfl rfl (xo_n))))))
theorem oX11_count_40 {Iv : xI} (hI : xm_good Iv)  : xm_okb Iv RX11 cX11_count false 1 lX11_count bX11_count_40 40 := xo_0 dX11_count_40 rfl trivial (xo_n)
theorem oX11_count_41 {Iv : xI} (hI : xm_good Iv)  : xm_okb Iv RX11 cX11_count false 1 lX11_count bX11_count_41 41 := xo_0 dX11_count_41 rfl trivial (xo_n)
theorem oX11_count {Iv : xI} (hI : xm_good Iv)  : ∀ q ∈ kX11_count, xm_okb Iv RX11 cX11_count false 1 lX11_count q.2 q.1 := by
  intro q hq
  simp only [List.mem_cons, List.not_mem_nil, or_false] at hq
  rcases hq with rfl | rfl | rfl | rfl | rfl
  · exact oX11_count_0 hI  
  · exact oX11_count_16 hI  
  · exact oX11_count_28 hI  
  · exact oX11_count_40 hI  
  · exact oX11_count_41 hI  
def S_X11_count : xS := tU fun as I Q => ∃ a, as = [.ref 0, .int a] ∧ t_good I ∧ t_P Q (q_count (tG I) a)
theorem body_X11_count : xm_Body 2 0 0 0 [] lX11_count kX11_count S_X11_count := by
  intro X avs w Q QX hX0 hS
  have hG := xm_go [] hX0
  have hX := xm_go [] hX0
  clear hX0
  obtain ⟨I, rfl, a, rfl, hg, hQ⟩ := hS
  refine ⟨rfl, ?_⟩
  repeat' (first
    | ((with_reducible refine @And.intro (vp_in _ _) _ ?_ ?_); (· (first | with_reducible assumption | ((with_reducible refine t_vin ?_); decide) | ((with_reducible refine vp_in_nI ?_ ?_) <;> first | omega | decide) | (simp (disch := omega) only [xl_n, xl_m, nI_dec, nI_sb, nI_add, pk_mul]; (with_reducible refine vp_in_nI ?_ ?_) <;> first | omega | decide))); (conv => whnf))
    | (refine And.intro (by first | with_reducible assumption | exact (show tL _ = _ from rfl) | decide) ?_; (conv => whnf))
    | ((with_reducible refine @And.intro (_ = _) _ ?_ ?_); (· rfl); (conv => whnf))
    | ((with_reducible refine @And.intro (@LE.le Nat _ _ _) _ ?_ ?_); (· (first | exact Nat.zero_le _ | exact Nat.le_of_ble_eq_true rfl | omega)); (conv => whnf))
    | ((with_reducible refine @And.intro (@LT.lt Nat _ _ _) _ ?_ ?_); (· omega); (conv => whnf))
    | ((with_reducible refine @And.intro (∃ _, _ = _) _ ?_ ?_); (· exact ⟨_, rfl⟩); (conv => whnf))
    | ((with_reducible refine @And.intro (_ ∨ _) _ ?_ ?_); (· (first | exact Or.inl rfl | exact Or.inr rfl | exact t_b01 _ | assumption)); (conv => whnf))
    | ((with_reducible refine @And.intro (¬ (_ = _)) _ ?_ ?_); (· first | assumption | (with_reducible assumption)); (conv => whnf))
    | (refine hX _ _ _ _ _ _ ?_; (conv => whnf); fail_if_success show False)
    | fail)
  rw [t_si]
  obtain ⟨J, hJ, hg1, hG1, h01⟩ := t_pub hg
  rw [← hJ]
  rw [← hG1] at hQ
  clear hJ hG1 hg I
  have hg := hg1
  have hok := hg.1
  have hl := hg.2.1
  have h8 := hok.2.2.2.1
  have h9 := hok.2.1
  (conv => whnf)
  have ei : gimn (tG J) = t_im J := rfl
  have et : gtape (tG J) = t_tp J := rfl
  rw [q_count, ei, ← hg.2.2.2.2.1.1, et, ← hg.2.2.2.2.2.1.1] at hQ
  repeat' (first
    | ((with_reducible refine @And.intro (vp_in _ _) _ ?_ ?_); (· (first | with_reducible assumption | ((with_reducible refine t_vin ?_); decide) | ((with_reducible refine vp_in_nI ?_ ?_) <;> first | omega | decide) | (simp (disch := omega) only [xl_n, xl_m, nI_dec, nI_sb, nI_add, pk_mul]; (with_reducible refine vp_in_nI ?_ ?_) <;> first | omega | decide))); (conv => whnf))
    | (refine And.intro (by first | with_reducible assumption | exact (show tL _ = _ from rfl) | decide) ?_; (conv => whnf))
    | ((with_reducible refine @And.intro (_ = _) _ ?_ ?_); (· rfl); (conv => whnf))
    | ((with_reducible refine @And.intro (@LE.le Nat _ _ _) _ ?_ ?_); (· (first | exact Nat.zero_le _ | exact Nat.le_of_ble_eq_true rfl | omega)); (conv => whnf))
    | ((with_reducible refine @And.intro (@LT.lt Nat _ _ _) _ ?_ ?_); (· omega); (conv => whnf))
    | ((with_reducible refine @And.intro (∃ _, _ = _) _ ?_ ?_); (· exact ⟨_, rfl⟩); (conv => whnf))
    | ((with_reducible refine @And.intro (_ ∨ _) _ ?_ ?_); (· (first | exact Or.inl rfl | exact Or.inr rfl | exact t_b01 _ | assumption)); (conv => whnf))
    | ((with_reducible refine @And.intro (¬ (_ = _)) _ ?_ ?_); (· first | assumption | (with_reducible assumption)); (conv => whnf))
    | (refine hX _ _ _ _ _ _ ?_; (conv => whnf); fail_if_success show False)
    | (rw [t_si]; (conv => whnf))
    | (refine ⟨_, rfl, ?_⟩; (conv => whnf))
    | (refine ⟨_, _, rfl, ?_⟩; (conv => whnf))
    | (refine ⟨_, _, _, rfl, ?_⟩; (conv => whnf))
    | (refine ⟨_, _, _, _, rfl, ?_⟩; (conv => whnf))
    | (refine And.intro (fun c => ?_) (fun c => ?_) <;> (first | (exact absurd c (by decide +kernel)) | (conv => whnf)))
    | fail)
  all_goals refine t_ask hQ hg t_sp.rf h01 ?_
  all_goals clear hX hG hQ
  all_goals simp (disch := omega) only [xl_n, xl_m, nI_dec, nI_sb, xl_0, xl_1, tW_i, t_bn0, t_bn1, Classical.not_not, t_lt, nI_add, nI_1, pk_mul, nI_clamp, t_si, nI_eq, nI_leI, nM_ne, nM_ne] at *
  all_goals simp_all
  all_goals rfl
theorem ct_X11_count {Iv : xI} (hI : xm_good Iv) : xm_Ct Iv yX11_count (ws_ yX11_count cX11_count 2 (some .int)) 1 0 0 S_X11_count := xm_enter (rt := 0) (init := false) (by decide +kernel) rfl (fun h => by cases h) (Or.inl ⟨rfl, rfl⟩) (oX11_count hI) body_X11_count
theorem cv_X11_count {Iv : xI} {own : String} {cc : ByteArray} {fr pc idx : Nat} (hI : xm_good Iv) (hdg : decode cc pc = .ok (.invokevirtual idx, 3)) (hl : xm_ml own idx yX11_count) (hfr : 1 < fr) : xm_CallOK Iv own cc fr pc (pc + 3) 2 0 0 (xm_this 8 S_X11_count) := xm_callV 8 hI (ct_X11_count hI) hdg hl q2621 q2622 q145 q2623 rfl rfl (by decide +kernel) hfr (by decide)
def q_owes (G : gG) (a b : Int32) : gR := g_ck G (g_isH G a && g_isH G b) (nI 1) 0 (g_says G (gow G a.toNatClampNeg b.toNatClampNeg))
abbrev bX11_owes_0 : List xE := [(.aload_n 0, 1, 0, 0, 0), (.iconst 0, 2, 0, 0, 0), (.putfield 134, 5, 8, 0, 0), (.aload_n 0, 6, 0, 0, 0), (.aload_n 0, 7, 0, 0, 0), (.iload_n 1, 8, 0, 0, 0), (.invokevirtual 331, 11, 0, 0, 9), (.ifCond .eq 11, 14, 0, 22, 0), (.aload_n 0, 15, 0, 0, 0), (.iload_n 2, 16, 0, 0, 0), (.invokevirtual 331, 19, 0, 0, 9), (.ifCond .ne 7, 22, 0, 26, 0)]
abbrev bX11_owes_22 : List xE := [(.iconst 1, 23, 0, 0, 0), (.goto 4, 26, 0, 27, 0)]
abbrev bX11_owes_26 : List xE := [(.iconst 0, 27, 0, 0, 0)]
abbrev bX11_owes_27 : List xE := [(.iconst 1, 28, 0, 0, 0), (.iconst 0, 29, 0, 0, 0), (.invokevirtual 249, 32, 0, 1, 9), (.ifCond .eq 5, 35, 0, 37, 0), (.iconst 0, 36, 0, 0, 0), (.ireturn, 37, 0, 0, 0)]
abbrev bX11_owes_37 : List xE := [(.aload_n 0, 38, 0, 0, 0), (.getfield 67, 41, 8, 26, 1), (.iload_n 1, 42, 0, 0, 0), (.aaload, 43, 0, 0, 0), (.iload_n 2, 44, 0, 0, 0), (.iaload, 45, 0, 0, 0), (.ireturn, 46, 0, 0, 0)]
abbrev kX11_owes : List (Nat × List xE) := [(0, bX11_owes_0), (22, bX11_owes_22), (26, bX11_owes_26), (27, bX11_owes_27), (37, bX11_owes_37)]
abbrev lX11_owes : List (Nat × Nat × Nat × xS) := [(2, 0, 0, xm_this 8 S_X11_isHand), (4, 0, 0, xm_this 8 S_X11_bad)]
theorem oX11_owes_0 {Iv : xI} (hI : xm_good Iv)  : xm_okb Iv RX11 cX11_owes false 3 lX11_owes bX11_owes_0 0 := xo_0 dX11_owes_0 rfl trivial (xo_0 dX11_owes_1 rfl trivial (xo_0 dX11_owes_2 rfl (xm_fp_of (xm_fg_of (Or.inl q1955) (by decide) rfl (by decide) rfl rfl (Or.inl rfl) rfl) (by decide) rfl (Or.inl ⟨rfl, rfl⟩) rfl) (xo_0 dX11_owes_5 rfl trivial (xo_0 dX11_owes_6 rfl trivial (xo_0 dX11_owes_7 rfl trivial (xo_c rfl (cv_X11_isHand hI dX11_owes_8 (Or.inl q2304) (by decide)) (xo_0 dX11_owes_11 rfl rfl (xo_0 dX11_owes_14 rfl trivial (xo_0 dX11_owes_15 rfl trivial (xo_c rfl (cv_X11_isHand hI dX11_owes_16 (Or.inl q2304) (by decide)) (xo_0 dX11_owes_19 rfl rfl (xo_n))))))))))))
theorem oX11_owes_22 {Iv : xI} (hI : xm_good Iv)  : xm_okb Iv RX11 cX11_owes false 3 lX11_owes bX11_owes_22 22 := xo_0 dX11_owes_22 rfl trivial (xo_0 dX11_owes_23 rfl rfl (xo_n))
theorem oX11_owes_26 {Iv : xI} (hI : xm_good Iv)  : xm_okb Iv RX11 cX11_owes false 3 lX11_owes bX11_owes_26 26 := xo_0 dX11_owes_26 rfl trivial (xo_n)
theorem oX11_owes_27 {Iv : xI} (hI : xm_good Iv)  : xm_okb Iv RX11 cX11_owes false 3 lX11_owes bX11_owes_27 27 := xo_0 dX11_owes_27 rfl trivial (xo_0 dX11_owes_28 rfl trivial (xo_c rfl (cv_X11_bad hI dX11_owes_29 (Or.inl q2137) (by decide)) (xo_0 dX11_owes_32 rfl rfl (xo_0 dX11_owes_35 rfl trivial (xo_0 dX11_owes_36 rfl trivial (xo_n))))))
theorem oX11_owes_37 {Iv : xI} (hI : xm_good Iv)  : xm_okb Iv RX11 cX11_owes false 3 lX11_owes bX11_owes_37 37 := xo_0 dX11_owes_37 rfl trivial (xo_1 dX11_owes_38 rfl (xm_fg_of (Or.inl q1981) (by decide) rfl (by decide) rfl rfl (Or.inl rfl) rfl) (xo_0 dX11_owes_41 rfl trivial (xo_0 dX11_owes_42 rfl trivial (xo_0 dX11_owes_43 rfl trivial (xo_0 dX11_owes_44 rfl trivial (xo_0 dX11_owes_45 rfl trivial (xo_n)))))))
theorem oX11_owes {Iv : xI} (hI : xm_good Iv)  : ∀ q ∈ kX11_owes, xm_okb Iv RX11 cX11_owes false 3 lX11_owes q.2 q.1 := by
  intro q hq
  simp only [List.mem_cons, List.not_mem_nil, or_false] at hq
  rcases hq with rfl | rfl | rfl | rfl | rfl
  · exact oX11_owes_0 hI  
  · exact oX11_owes_22 hI  
  · exact oX11_owes_26 hI  
  · exact oX11_owes_27 hI  
  · exact oX11_owes_37 hI  
def S_X11_owes : xS := tU fun as I Q => ∃ a b, as = [.ref 0, .int a, .int b] ∧ t_good I ∧ t_P Q (q_owes (tG I) a b)
theorem body_X11_owes : xm_Body 3 0 0 0 [] lX11_owes kX11_owes S_X11_owes := by
  intro X avs w Q QX hX0 hS
  have hG := xm_go [] hX0
  have hX := xm_go [] hX0
  clear hX0
  obtain ⟨I, rfl, a, b, rfl, hg, hQ⟩ := hS
  refine ⟨rfl, ?_⟩
  repeat' (first
    | ((with_reducible refine @And.intro (vp_in _ _) _ ?_ ?_); (· (first | with_reducible assumption | ((with_reducible refine t_vin ?_); decide) | ((with_reducible refine vp_in_nI ?_ ?_) <;> first | omega | decide) | (simp (disch := omega) only [xl_n, xl_m, nI_dec, nI_sb, nI_add, pk_mul]; (with_reducible refine vp_in_nI ?_ ?_) <;> first | omega | decide))); (conv => whnf))
    | (refine And.intro (by first | with_reducible assumption | exact (show tL _ = _ from rfl) | decide) ?_; (conv => whnf))
    | ((with_reducible refine @And.intro (_ = _) _ ?_ ?_); (· rfl); (conv => whnf))
    | ((with_reducible refine @And.intro (@LE.le Nat _ _ _) _ ?_ ?_); (· (first | exact Nat.zero_le _ | exact Nat.le_of_ble_eq_true rfl | omega)); (conv => whnf))
    | ((with_reducible refine @And.intro (@LT.lt Nat _ _ _) _ ?_ ?_); (· omega); (conv => whnf))
    | ((with_reducible refine @And.intro (∃ _, _ = _) _ ?_ ?_); (· exact ⟨_, rfl⟩); (conv => whnf))
    | ((with_reducible refine @And.intro (_ ∨ _) _ ?_ ?_); (· (first | exact Or.inl rfl | exact Or.inr rfl | exact t_b01 _ | assumption)); (conv => whnf))
    | ((with_reducible refine @And.intro (¬ (_ = _)) _ ?_ ?_); (· first | assumption | (with_reducible assumption)); (conv => whnf))
    | (refine hX _ _ _ _ _ _ ?_; (conv => whnf); fail_if_success show False)
    | fail)
  rw [t_si]
  obtain ⟨J, hJ, hg1, hG1, h01⟩ := t_pub hg
  rw [← hJ]
  rw [← hG1] at hQ
  clear hJ hG1 hg I
  have hg := hg1
  have hok := hg.1
  have hl := hg.2.1
  have h8 := hok.2.2.2.1
  have h9 := hok.2.1
  (conv => whnf)
  rcases t_hc hg a with ⟨h, hh, rfl, e1, f1⟩ | ⟨e1, f1⟩
  · rcases t_hc hg b with ⟨p, hp, rfl, e2, f2⟩ | ⟨e2, f2⟩
    · repeat' (first
        | ((with_reducible refine @And.intro (vp_in _ _) _ ?_ ?_); (· (first | with_reducible assumption | ((with_reducible refine t_vin ?_); decide) | ((with_reducible refine vp_in_nI ?_ ?_) <;> first | omega | decide) | (simp (disch := omega) only [xl_n, xl_m, nI_dec, nI_sb, nI_add, pk_mul]; (with_reducible refine vp_in_nI ?_ ?_) <;> first | omega | decide))); (conv => whnf))
        | (refine And.intro (by first | with_reducible assumption | exact (show tL _ = _ from rfl) | decide) ?_; (conv => whnf))
        | ((with_reducible refine @And.intro (_ = _) _ ?_ ?_); (· rfl); (conv => whnf))
        | ((with_reducible refine @And.intro (@LE.le Nat _ _ _) _ ?_ ?_); (· (first | exact Nat.zero_le _ | exact Nat.le_of_ble_eq_true rfl | omega)); (conv => whnf))
        | ((with_reducible refine @And.intro (@LT.lt Nat _ _ _) _ ?_ ?_); (· omega); (conv => whnf))
        | ((with_reducible refine @And.intro (∃ _, _ = _) _ ?_ ?_); (· exact ⟨_, rfl⟩); (conv => whnf))
        | ((with_reducible refine @And.intro (_ ∨ _) _ ?_ ?_); (· (first | exact Or.inl rfl | exact Or.inr rfl | exact t_b01 _ | assumption)); (conv => whnf))
        | ((with_reducible refine @And.intro (¬ (_ = _)) _ ?_ ?_); (· first | assumption | (with_reducible assumption)); (conv => whnf))
        | (refine hX _ _ _ _ _ _ ?_; (conv => whnf); fail_if_success show False)
        | (rw [t_si]; (conv => whnf))
        | (refine ⟨_, rfl, ?_⟩; (conv => whnf))
        | (refine ⟨_, _, rfl, ?_⟩; (conv => whnf))
        | (refine ⟨_, _, _, rfl, ?_⟩; (conv => whnf))
        | (refine ⟨_, _, _, _, rfl, ?_⟩; (conv => whnf))
        | (rw [t_l170 (by first | with_reducible assumption | omega | exact vp_lt (by assumption) | (rw [nI_clamp (by omega)]; omega))]; (conv => whnf))
        | (rw [e1]; (conv => whnf))
        | (rw [e2]; (conv => whnf))
        | (refine And.intro (fun c => ?_) (fun c => ?_) <;> (first | (exact absurd c (by decide +kernel)) | (conv => whnf)))
        | fail)
      rw [q_owes, f1, f2, nI_clamp (by omega), nI_clamp (by omega)] at hQ
      refine t_ask hQ hg t_sp.rf h01 ?_
      clear hX hG
      simp (disch := omega) only [xl_n, xl_m, nI_dec, nI_sb, xl_0, xl_1, tW_i, t_bn0, t_bn1, Classical.not_not, t_lt, nI_add, nI_1, pk_mul, nI_clamp, t_si, nI_eq, nI_leI, nM_ne, nM_ne] at *
      exact (if_pos (show h < 9 ∧ p < 9 by omega)).symm
    · repeat' (first
        | ((with_reducible refine @And.intro (vp_in _ _) _ ?_ ?_); (· (first | with_reducible assumption | ((with_reducible refine t_vin ?_); decide) | ((with_reducible refine vp_in_nI ?_ ?_) <;> first | omega | decide) | (simp (disch := omega) only [xl_n, xl_m, nI_dec, nI_sb, nI_add, pk_mul]; (with_reducible refine vp_in_nI ?_ ?_) <;> first | omega | decide))); (conv => whnf))
        | (refine And.intro (by first | with_reducible assumption | exact (show tL _ = _ from rfl) | decide) ?_; (conv => whnf))
        | ((with_reducible refine @And.intro (_ = _) _ ?_ ?_); (· rfl); (conv => whnf))
        | ((with_reducible refine @And.intro (@LE.le Nat _ _ _) _ ?_ ?_); (· (first | exact Nat.zero_le _ | exact Nat.le_of_ble_eq_true rfl | omega)); (conv => whnf))
        | ((with_reducible refine @And.intro (@LT.lt Nat _ _ _) _ ?_ ?_); (· omega); (conv => whnf))
        | ((with_reducible refine @And.intro (∃ _, _ = _) _ ?_ ?_); (· exact ⟨_, rfl⟩); (conv => whnf))
        | ((with_reducible refine @And.intro (_ ∨ _) _ ?_ ?_); (· (first | exact Or.inl rfl | exact Or.inr rfl | exact t_b01 _ | assumption)); (conv => whnf))
        | ((with_reducible refine @And.intro (¬ (_ = _)) _ ?_ ?_); (· first | assumption | (with_reducible assumption)); (conv => whnf))
        | (refine hX _ _ _ _ _ _ ?_; (conv => whnf); fail_if_success show False)
        | (rw [t_si]; (conv => whnf))
        | (refine ⟨_, rfl, ?_⟩; (conv => whnf))
        | (refine ⟨_, _, rfl, ?_⟩; (conv => whnf))
        | (refine ⟨_, _, _, rfl, ?_⟩; (conv => whnf))
        | (refine ⟨_, _, _, _, rfl, ?_⟩; (conv => whnf))
        | (rw [e1]; (conv => whnf))
        | (rw [e2]; (conv => whnf))
        | (refine And.intro (fun c => ?_) (fun c => ?_) <;> (first | (exact absurd c (by decide +kernel)) | (conv => whnf)))
        | fail)
      exact t_ref' hQ hg h01 (by simp [f1, f2]) (by decide) rfl rfl
  · rw [q_owes] at hQ
    repeat' (first
      | ((with_reducible refine @And.intro (vp_in _ _) _ ?_ ?_); (· (first | with_reducible assumption | ((with_reducible refine t_vin ?_); decide) | ((with_reducible refine vp_in_nI ?_ ?_) <;> first | omega | decide) | (simp (disch := omega) only [xl_n, xl_m, nI_dec, nI_sb, nI_add, pk_mul]; (with_reducible refine vp_in_nI ?_ ?_) <;> first | omega | decide))); (conv => whnf))
      | (refine And.intro (by first | with_reducible assumption | exact (show tL _ = _ from rfl) | decide) ?_; (conv => whnf))
      | ((with_reducible refine @And.intro (_ = _) _ ?_ ?_); (· rfl); (conv => whnf))
      | ((with_reducible refine @And.intro (@LE.le Nat _ _ _) _ ?_ ?_); (· (first | exact Nat.zero_le _ | exact Nat.le_of_ble_eq_true rfl | omega)); (conv => whnf))
      | ((with_reducible refine @And.intro (@LT.lt Nat _ _ _) _ ?_ ?_); (· omega); (conv => whnf))
      | ((with_reducible refine @And.intro (∃ _, _ = _) _ ?_ ?_); (· exact ⟨_, rfl⟩); (conv => whnf))
      | ((with_reducible refine @And.intro (_ ∨ _) _ ?_ ?_); (· (first | exact Or.inl rfl | exact Or.inr rfl | exact t_b01 _ | assumption)); (conv => whnf))
      | ((with_reducible refine @And.intro (¬ (_ = _)) _ ?_ ?_); (· first | assumption | (with_reducible assumption)); (conv => whnf))
      | (refine hX _ _ _ _ _ _ ?_; (conv => whnf); fail_if_success show False)
      | (rw [t_si]; (conv => whnf))
      | (refine ⟨_, rfl, ?_⟩; (conv => whnf))
      | (refine ⟨_, _, rfl, ?_⟩; (conv => whnf))
      | (refine ⟨_, _, _, rfl, ?_⟩; (conv => whnf))
      | (refine ⟨_, _, _, _, rfl, ?_⟩; (conv => whnf))
      | (rw [e1]; (conv => whnf))
      | (refine And.intro (fun c => ?_) (fun c => ?_) <;> (first | (exact absurd c (by decide +kernel)) | (conv => whnf)))
      | fail)
    exact t_ref' hQ hg h01 (by simp [f1]) (by decide) rfl rfl
theorem ct_X11_owes {Iv : xI} (hI : xm_good Iv) : xm_Ct Iv yX11_owes (ws_ yX11_owes cX11_owes 3 (some .int)) 3 0 0 S_X11_owes := xm_enter (rt := 0) (init := false) (by decide +kernel) rfl (fun h => by cases h) (Or.inl ⟨rfl, rfl⟩) (oX11_owes hI) body_X11_owes
theorem cv_X11_owes {Iv : xI} {own : String} {cc : ByteArray} {fr pc idx : Nat} (hI : xm_good Iv) (hdg : decode cc pc = .ok (.invokevirtual idx, 3)) (hl : xm_ml own idx yX11_owes) (hfr : 3 < fr) : xm_CallOK Iv own cc fr pc (pc + 3) 3 0 0 (xm_this 8 S_X11_owes) := xm_callV 8 hI (ct_X11_owes hI) hdg hl q2565 q2566 q145 q2567 rfl rfl (by decide +kernel) hfr (by decide)
abbrev bX11_netOf_0 : List xE := [(.iconst 0, 1, 0, 0, 0), (.istore_n 2, 2, 0, 0, 0), (.iconst 0, 3, 0, 0, 0), (.istore_n 3, 4, 0, 0, 0)]
abbrev bX11_netOf_4 : List xE := [(.iload_n 3, 5, 0, 0, 0), (.aload_n 0, 6, 0, 0, 0), (.getfield 23, 9, 8, 12, 1), (.iconst 0, 10, 0, 0, 0), (.iaload, 11, 0, 0, 0), (.if_icmp .ge 29, 14, 0, 40, 0), (.iload_n 2, 15, 0, 0, 0), (.aload_n 0, 16, 0, 0, 0), (.getfield 67, 19, 8, 26, 1), (.iload_n 3, 20, 0, 0, 0), (.aaload, 21, 0, 0, 0), (.iload_n 1, 22, 0, 0, 0), (.iaload, 23, 0, 0, 0), (.aload_n 0, 24, 0, 0, 0), (.getfield 67, 27, 8, 26, 1), (.iload_n 1, 28, 0, 0, 0), (.aaload, 29, 0, 0, 0), (.iload_n 3, 30, 0, 0, 0), (.iaload, 31, 0, 0, 0), (.isub, 32, 0, 0, 0), (.iadd, 33, 0, 0, 0), (.istore_n 2, 34, 0, 0, 0), (.iinc 3 1, 37, 0, 0, 0), (.goto (-33), 40, 0, 4, 0)]
abbrev bX11_netOf_40 : List xE := [(.iload_n 2, 41, 0, 0, 0), (.ireturn, 42, 0, 0, 0)]
abbrev kX11_netOf : List (Nat × List xE) := [(0, bX11_netOf_0), (4, bX11_netOf_4), (40, bX11_netOf_40)]
abbrev lX11_netOf : List (Nat × Nat × Nat × xS) := []
theorem oX11_netOf_0 {Iv : xI} (hI : xm_good Iv)  : xm_okb Iv RX11 cX11_netOf false 1 lX11_netOf bX11_netOf_0 0 := xo_0 dX11_netOf_0 rfl trivial (xo_0 dX11_netOf_1 rfl trivial (xo_0 dX11_netOf_2 rfl trivial (xo_0 dX11_netOf_3 rfl trivial (xo_n))))
theorem oX11_netOf_4 {Iv : xI} (hI : xm_good Iv)  : xm_okb Iv RX11 cX11_netOf false 1 lX11_netOf bX11_netOf_4 4 := xo_0 dX11_netOf_4 rfl trivial (xo_0 dX11_netOf_5 rfl trivial (xo_1 dX11_netOf_6 rfl (xm_fg_of (Or.inl q1967) (by decide) rfl (by decide) rfl rfl (Or.inl rfl) rfl) (xo_0 dX11_netOf_9 rfl trivial (xo_0 dX11_netOf_10 rfl trivial (xo_0 dX11_netOf_11 rfl rfl (xo_0 dX11_netOf_14 rfl trivial (xo_0 dX11_netOf_15 rfl trivial (xo_1 dX11_netOf_16 rfl (xm_fg_of (Or.inl q1981) (by decide) rfl (by decide) rfl rfl (Or.inl rfl) rfl) (xo_0 dX11_netOf_19 rfl trivial (xo_0 dX11_netOf_20 rfl trivial (xo_0 dX11_netOf_21 rfl trivial (xo_0 dX11_netOf_22 rfl trivial (xo_0 dX11_netOf_23 rfl trivial (xo_1 dX11_netOf_24 rfl (xm_fg_of (Or.inl q1981) (by decide) rfl (by decide) rfl rfl (Or.inl rfl) rfl) (xo_0 dX11_netOf_27 rfl trivial (xo_0 dX11_netOf_28 rfl trivial (xo_0 dX11_netOf_29 rfl trivial (xo_0 dX11_netOf_30 rfl trivial (xo_0 dX11_netOf_31 rfl trivial (xo_0 dX11_netOf_32 rfl trivial (xo_0 dX11_netOf_33 rfl trivial (xo_0 dX11_netOf_34 rfl trivial (xo_0 dX11_netOf_37 rfl rfl (xo_n))))))))))))))))))))))))
theorem oX11_netOf_40 {Iv : xI} (hI : xm_good Iv)  : xm_okb Iv RX11 cX11_netOf false 1 lX11_netOf bX11_netOf_40 40 := xo_0 dX11_netOf_40 rfl trivial (xo_0 dX11_netOf_41 rfl trivial (xo_n))
theorem oX11_netOf {Iv : xI} (hI : xm_good Iv)  : ∀ q ∈ kX11_netOf, xm_okb Iv RX11 cX11_netOf false 1 lX11_netOf q.2 q.1 := by
  intro q hq
  simp only [List.mem_cons, List.not_mem_nil, or_false] at hq
  rcases hq with rfl | rfl | rfl
  · exact oX11_netOf_0 hI  
  · exact oX11_netOf_4 hI  
  · exact oX11_netOf_40 hI  
def g_net (G : gG) (h : Nat) : Int32 := t_sum (gn (gGK G)) fun k => gow G k h - gow G h k
def S_X11_netOf : xS := tU fun as I Q => ∃ h, as = [.ref 0, .int (nI h)] ∧ t_good I ∧ h < t_h I ∧ Q (some (.int (g_net (tG I) h))) I
theorem body_X11_netOf : xm_Body 4 0 0 0 [] lX11_netOf kX11_netOf S_X11_netOf := by
  intro X avs w Q QX hX0 hS
  have hG := xm_go [] hX0
  have hX := xm_go [4] hX0
  clear hX0
  obtain ⟨I, rfl, h, rfl, hg, hh, hQ⟩ := hS
  obtain ⟨hn, h9, -⟩ := id hg.1
  have loop : ∀ k, k ≤ t_h I → X 4 [some (.ref 0), some (.int (nI h)), some (.int (t_sum k fun k => gow (tG I) k h - gow (tG I) h k)), some (.int (nI k))] [] (tW I) 0 0 := by
    refine t_for fun k h1 ih => ?_
    refine hG _ _ _ _ _ _ ?_
    (conv => whnf)
    repeat' (first
      | ((with_reducible refine @And.intro (vp_in _ _) _ ?_ ?_); (· (first | with_reducible assumption | ((with_reducible refine t_vin ?_); decide) | ((with_reducible refine vp_in_nI ?_ ?_) <;> first | omega | decide) | (simp (disch := omega) only [xl_n, xl_m, nI_dec, nI_sb, nI_add, pk_mul]; (with_reducible refine vp_in_nI ?_ ?_) <;> first | omega | decide))); (conv => whnf))
      | (refine And.intro (by first | with_reducible assumption | exact (show tL _ = _ from rfl) | decide) ?_; (conv => whnf))
      | ((with_reducible refine @And.intro (_ = _) _ ?_ ?_); (· rfl); (conv => whnf))
      | ((with_reducible refine @And.intro (@LE.le Nat _ _ _) _ ?_ ?_); (· (first | exact Nat.zero_le _ | exact Nat.le_of_ble_eq_true rfl | omega)); (conv => whnf))
      | ((with_reducible refine @And.intro (@LT.lt Nat _ _ _) _ ?_ ?_); (· omega); (conv => whnf))
      | ((with_reducible refine @And.intro (∃ _, _ = _) _ ?_ ?_); (· exact ⟨_, rfl⟩); (conv => whnf))
      | ((with_reducible refine @And.intro (_ ∨ _) _ ?_ ?_); (· (first | exact Or.inl rfl | exact Or.inr rfl | exact t_b01 _ | assumption)); (conv => whnf))
      | ((with_reducible refine @And.intro (¬ (_ = _)) _ ?_ ?_); (· first | assumption | (with_reducible assumption)); (conv => whnf))
      | (refine hX _ _ _ _ _ _ ?_; (conv => whnf); fail_if_success show False)
      | (rw [t_si]; (conv => whnf))
      | (refine ⟨_, rfl, ?_⟩; (conv => whnf))
      | (refine ⟨_, _, rfl, ?_⟩; (conv => whnf))
      | (refine ⟨_, _, _, rfl, ?_⟩; (conv => whnf))
      | (refine ⟨_, _, _, _, rfl, ?_⟩; (conv => whnf))
      | fail)
    refine And.intro (fun c => ?_) (fun c => ?_) <;> (conv => whnf)
    · repeat' (first
        | ((with_reducible refine @And.intro (vp_in _ _) _ ?_ ?_); (· (first | with_reducible assumption | ((with_reducible refine t_vin ?_); decide) | ((with_reducible refine vp_in_nI ?_ ?_) <;> first | omega | decide) | (simp (disch := omega) only [xl_n, xl_m, nI_dec, nI_sb, nI_add, pk_mul]; (with_reducible refine vp_in_nI ?_ ?_) <;> first | omega | decide))); (conv => whnf))
        | (refine And.intro (by first | with_reducible assumption | exact (show tL _ = _ from rfl) | decide) ?_; (conv => whnf))
        | ((with_reducible refine @And.intro (_ = _) _ ?_ ?_); (· rfl); (conv => whnf))
        | ((with_reducible refine @And.intro (@LE.le Nat _ _ _) _ ?_ ?_); (· (first | exact Nat.zero_le _ | exact Nat.le_of_ble_eq_true rfl | omega)); (conv => whnf))
        | ((with_reducible refine @And.intro (@LT.lt Nat _ _ _) _ ?_ ?_); (· omega); (conv => whnf))
        | ((with_reducible refine @And.intro (∃ _, _ = _) _ ?_ ?_); (· exact ⟨_, rfl⟩); (conv => whnf))
        | ((with_reducible refine @And.intro (_ ∨ _) _ ?_ ?_); (· (first | exact Or.inl rfl | exact Or.inr rfl | exact t_b01 _ | assumption)); (conv => whnf))
        | ((with_reducible refine @And.intro (¬ (_ = _)) _ ?_ ?_); (· first | assumption | (with_reducible assumption)); (conv => whnf))
        | (refine hX _ _ _ _ _ _ ?_; (conv => whnf); fail_if_success show False)
        | (rw [t_si]; (conv => whnf))
        | (refine ⟨_, rfl, ?_⟩; (conv => whnf))
        | (refine ⟨_, _, rfl, ?_⟩; (conv => whnf))
        | (refine ⟨_, _, _, rfl, ?_⟩; (conv => whnf))
        | (refine ⟨_, _, _, _, rfl, ?_⟩; (conv => whnf))
        | fail)
      have : k = t_h I := Nat.le_antisymm h1 (t_kge hn c (by omega) (by omega))
      subst this
      exact hQ
    · have hk : k < t_h I := t_klt hn c (by omega)
      repeat' (first
        | ((with_reducible refine @And.intro (vp_in _ _) _ ?_ ?_); (· (first | with_reducible assumption | ((with_reducible refine t_vin ?_); decide) | ((with_reducible refine vp_in_nI ?_ ?_) <;> first | omega | decide) | (simp (disch := omega) only [xl_n, xl_m, nI_dec, nI_sb, nI_add, pk_mul]; (with_reducible refine vp_in_nI ?_ ?_) <;> first | omega | decide))); (conv => whnf))
        | (refine And.intro (by first | with_reducible assumption | exact (show tL _ = _ from rfl) | decide) ?_; (conv => whnf))
        | ((with_reducible refine @And.intro (_ = _) _ ?_ ?_); (· rfl); (conv => whnf))
        | ((with_reducible refine @And.intro (@LE.le Nat _ _ _) _ ?_ ?_); (· (first | exact Nat.zero_le _ | exact Nat.le_of_ble_eq_true rfl | omega)); (conv => whnf))
        | ((with_reducible refine @And.intro (@LT.lt Nat _ _ _) _ ?_ ?_); (· omega); (conv => whnf))
        | ((with_reducible refine @And.intro (∃ _, _ = _) _ ?_ ?_); (· exact ⟨_, rfl⟩); (conv => whnf))
        | ((with_reducible refine @And.intro (_ ∨ _) _ ?_ ?_); (· (first | exact Or.inl rfl | exact Or.inr rfl | exact t_b01 _ | assumption)); (conv => whnf))
        | ((with_reducible refine @And.intro (¬ (_ = _)) _ ?_ ?_); (· first | assumption | (with_reducible assumption)); (conv => whnf))
        | (refine hX _ _ _ _ _ _ ?_; (conv => whnf); fail_if_success show False)
        | (rw [t_si]; (conv => whnf))
        | (refine ⟨_, rfl, ?_⟩; (conv => whnf))
        | (refine ⟨_, _, rfl, ?_⟩; (conv => whnf))
        | (refine ⟨_, _, _, rfl, ?_⟩; (conv => whnf))
        | (refine ⟨_, _, _, _, rfl, ?_⟩; (conv => whnf))
        | (rw [t_l170 (by first | with_reducible assumption | omega | exact vp_lt (by assumption) | (rw [nI_clamp (by omega)]; omega))]; (conv => whnf))
        | (refine And.intro (fun c => ?_) (fun c => ?_) <;> (first | (exact absurd c (by decide +kernel)) | (conv => whnf)))
        | fail)
      have := ih (k + 1) (by omega) (by omega)
      rw [t_sum_s, show gow (tG I) k h = I (170 + k) h from if_pos (by omega), show gow (tG I) h k = I (170 + h) k from if_pos (by omega)] at this
      clear ih hX hG hQ
      simp (disch := omega) only [xl_n, xl_m, nI_dec, nI_sb, xl_0, xl_1, tW_i, t_bn0, t_bn1, Classical.not_not, t_lt, nI_add, nI_1, pk_mul, nI_clamp, t_si, nI_eq, nI_leI, nM_ne, nM_ne, xm_set, xm_lv0, xm_psh] at *
      exact this
  refine ⟨rfl, ?_⟩
  repeat' (first
    | ((with_reducible refine @And.intro (vp_in _ _) _ ?_ ?_); (· (first | with_reducible assumption | ((with_reducible refine t_vin ?_); decide) | ((with_reducible refine vp_in_nI ?_ ?_) <;> first | omega | decide) | (simp (disch := omega) only [xl_n, xl_m, nI_dec, nI_sb, nI_add, pk_mul]; (with_reducible refine vp_in_nI ?_ ?_) <;> first | omega | decide))); (conv => whnf))
    | (refine And.intro (by first | with_reducible assumption | exact (show tL _ = _ from rfl) | decide) ?_; (conv => whnf))
    | ((with_reducible refine @And.intro (_ = _) _ ?_ ?_); (· rfl); (conv => whnf))
    | ((with_reducible refine @And.intro (@LE.le Nat _ _ _) _ ?_ ?_); (· (first | exact Nat.zero_le _ | exact Nat.le_of_ble_eq_true rfl | omega)); (conv => whnf))
    | ((with_reducible refine @And.intro (@LT.lt Nat _ _ _) _ ?_ ?_); (· omega); (conv => whnf))
    | ((with_reducible refine @And.intro (∃ _, _ = _) _ ?_ ?_); (· exact ⟨_, rfl⟩); (conv => whnf))
    | ((with_reducible refine @And.intro (_ ∨ _) _ ?_ ?_); (· (first | exact Or.inl rfl | exact Or.inr rfl | exact t_b01 _ | assumption)); (conv => whnf))
    | ((with_reducible refine @And.intro (¬ (_ = _)) _ ?_ ?_); (· first | assumption | (with_reducible assumption)); (conv => whnf))
    | (refine hX _ _ _ _ _ _ ?_; (conv => whnf); fail_if_success show False)
    | (rw [t_si]; (conv => whnf))
    | (refine ⟨_, rfl, ?_⟩; (conv => whnf))
    | (refine ⟨_, _, rfl, ?_⟩; (conv => whnf))
    | (refine ⟨_, _, _, rfl, ?_⟩; (conv => whnf))
    | (refine ⟨_, _, _, _, rfl, ?_⟩; (conv => whnf))
    | (refine And.intro (fun c => ?_) (fun c => ?_) <;> (first | (exact absurd c (by decide +kernel)) | (conv => whnf)))
    | fail)
  exact loop 0 (Nat.zero_le _)
theorem ct_X11_netOf {Iv : xI} (hI : xm_good Iv) : xm_Ct Iv yX11_netOf (ws_ yX11_netOf cX11_netOf 4 (some .int)) 1 0 0 S_X11_netOf := xm_enter (rt := 0) (init := false) (by decide +kernel) rfl (fun h => by cases h) (Or.inl ⟨rfl, rfl⟩) (oX11_netOf hI) body_X11_netOf
theorem cv_X11_netOf {Iv : xI} {own : String} {cc : ByteArray} {fr pc idx : Nat} (hI : xm_good Iv) (hdg : decode cc pc = .ok (.invokevirtual idx, 3)) (hl : xm_ml own idx yX11_netOf) (hfr : 1 < fr) : xm_CallOK Iv own cc fr pc (pc + 3) 2 0 0 (xm_this 8 S_X11_netOf) := xm_callV 8 hI (ct_X11_netOf hI) hdg hl q2574 qs113 q145 q2575 rfl rfl (by decide +kernel) hfr (by decide)
def q_net (G : gG) (a : Int32) : gR := g_ck G (g_isH G a) (nI 1) 0 (g_says G (g_net G a.toNatClampNeg))
abbrev bX11_net_0 : List xE := [(.aload_n 0, 1, 0, 0, 0), (.iconst 0, 2, 0, 0, 0), (.putfield 134, 5, 8, 0, 0), (.aload_n 0, 6, 0, 0, 0), (.aload_n 0, 7, 0, 0, 0), (.iload_n 1, 8, 0, 0, 0), (.invokevirtual 331, 11, 0, 0, 9), (.ifCond .ne 7, 14, 0, 18, 0), (.iconst 1, 15, 0, 0, 0), (.goto 4, 18, 0, 19, 0)]
abbrev bX11_net_18 : List xE := [(.iconst 0, 19, 0, 0, 0)]
abbrev bX11_net_19 : List xE := [(.iconst 1, 20, 0, 0, 0), (.iconst 0, 21, 0, 0, 0), (.invokevirtual 249, 24, 0, 1, 9), (.ifCond .eq 5, 27, 0, 29, 0), (.iconst 0, 28, 0, 0, 0), (.ireturn, 29, 0, 0, 0)]
abbrev bX11_net_29 : List xE := [(.aload_n 0, 30, 0, 0, 0), (.iload_n 1, 31, 0, 0, 0), (.invokevirtual 439, 34, 0, 2, 9), (.ireturn, 35, 0, 0, 0)]
abbrev kX11_net : List (Nat × List xE) := [(0, bX11_net_0), (18, bX11_net_18), (19, bX11_net_19), (29, bX11_net_29)]
abbrev lX11_net : List (Nat × Nat × Nat × xS) := [(2, 0, 0, xm_this 8 S_X11_isHand), (4, 0, 0, xm_this 8 S_X11_bad), (2, 0, 0, xm_this 8 S_X11_netOf)]
theorem oX11_net_0 {Iv : xI} (hI : xm_good Iv)  : xm_okb Iv RX11 cX11_net false 3 lX11_net bX11_net_0 0 := xo_0 dX11_net_0 rfl trivial (xo_0 dX11_net_1 rfl trivial (xo_0 dX11_net_2 rfl (xm_fp_of (xm_fg_of (Or.inl q1955) (by decide) rfl (by decide) rfl rfl (Or.inl rfl) rfl) (by decide) rfl (Or.inl ⟨rfl, rfl⟩) rfl) (xo_0 dX11_net_5 rfl trivial (xo_0 dX11_net_6 rfl trivial (xo_0 dX11_net_7 rfl trivial (xo_c rfl (cv_X11_isHand hI dX11_net_8 (Or.inl q2304) (by decide)) (xo_0 dX11_net_11 rfl rfl (xo_0 dX11_net_14 rfl trivial (xo_0 dX11_net_15 rfl rfl (xo_n))))))))))
theorem oX11_net_18 {Iv : xI} (hI : xm_good Iv)  : xm_okb Iv RX11 cX11_net false 3 lX11_net bX11_net_18 18 := xo_0 dX11_net_18 rfl trivial (xo_n)
theorem oX11_net_19 {Iv : xI} (hI : xm_good Iv)  : xm_okb Iv RX11 cX11_net false 3 lX11_net bX11_net_19 19 := xo_0 dX11_net_19 rfl trivial (xo_0 dX11_net_20 rfl trivial (xo_c rfl (cv_X11_bad hI dX11_net_21 (Or.inl q2137) (by decide)) (xo_0 dX11_net_24 rfl rfl (xo_0 dX11_net_27 rfl trivial (xo_0 dX11_net_28 rfl trivial (xo_n))))))
theorem oX11_net_29 {Iv : xI} (hI : xm_good Iv)  : xm_okb Iv RX11 cX11_net false 3 lX11_net bX11_net_29 29 := xo_0 dX11_net_29 rfl trivial (xo_0 dX11_net_30 rfl trivial (xo_c rfl (cv_X11_netOf hI dX11_net_31 (Or.inl q2572) (by decide)) (xo_0 dX11_net_34 rfl trivial (xo_n))))
theorem oX11_net {Iv : xI} (hI : xm_good Iv)  : ∀ q ∈ kX11_net, xm_okb Iv RX11 cX11_net false 3 lX11_net q.2 q.1 := by
  intro q hq
  simp only [List.mem_cons, List.not_mem_nil, or_false] at hq
  rcases hq with rfl | rfl | rfl | rfl
  · exact oX11_net_0 hI  
  · exact oX11_net_18 hI  
  · exact oX11_net_19 hI  
  · exact oX11_net_29 hI  
def S_X11_net : xS := tU fun as I Q => ∃ a, as = [.ref 0, .int a] ∧ t_good I ∧ t_P Q (q_net (tG I) a)
theorem body_X11_net : xm_Body 2 0 0 0 [] lX11_net kX11_net S_X11_net := by
  intro X avs w Q QX hX0 hS
  have hG := xm_go [] hX0
  have hX := xm_go [] hX0
  clear hX0
  obtain ⟨I, rfl, a, rfl, hg, hQ⟩ := hS
  refine ⟨rfl, ?_⟩
  repeat' (first
    | ((with_reducible refine @And.intro (vp_in _ _) _ ?_ ?_); (· (first | with_reducible assumption | ((with_reducible refine t_vin ?_); decide) | ((with_reducible refine vp_in_nI ?_ ?_) <;> first | omega | decide) | (simp (disch := omega) only [xl_n, xl_m, nI_dec, nI_sb, nI_add, pk_mul]; (with_reducible refine vp_in_nI ?_ ?_) <;> first | omega | decide))); (conv => whnf))
    | (refine And.intro (by first | with_reducible assumption | exact (show tL _ = _ from rfl) | decide) ?_; (conv => whnf))
    | ((with_reducible refine @And.intro (_ = _) _ ?_ ?_); (· rfl); (conv => whnf))
    | ((with_reducible refine @And.intro (@LE.le Nat _ _ _) _ ?_ ?_); (· (first | exact Nat.zero_le _ | exact Nat.le_of_ble_eq_true rfl | omega)); (conv => whnf))
    | ((with_reducible refine @And.intro (@LT.lt Nat _ _ _) _ ?_ ?_); (· omega); (conv => whnf))
    | ((with_reducible refine @And.intro (∃ _, _ = _) _ ?_ ?_); (· exact ⟨_, rfl⟩); (conv => whnf))
    | ((with_reducible refine @And.intro (_ ∨ _) _ ?_ ?_); (· (first | exact Or.inl rfl | exact Or.inr rfl | exact t_b01 _ | assumption)); (conv => whnf))
    | ((with_reducible refine @And.intro (¬ (_ = _)) _ ?_ ?_); (· first | assumption | (with_reducible assumption)); (conv => whnf))
    | (refine hX _ _ _ _ _ _ ?_; (conv => whnf); fail_if_success show False)
    | fail)
  rw [t_si]
  obtain ⟨J, hJ, hg1, hG1, h01⟩ := t_pub hg
  rw [← hJ]
  rw [← hG1] at hQ
  clear hJ hG1 hg I
  have hg := hg1
  have hok := hg.1
  have hl := hg.2.1
  have h8 := hok.2.2.2.1
  have h9 := hok.2.1
  (conv => whnf)
  rcases t_hc hg a with ⟨h, hh, rfl, e1, f1⟩ | ⟨e1, f1⟩
  · repeat' (first
      | ((with_reducible refine @And.intro (vp_in _ _) _ ?_ ?_); (· (first | with_reducible assumption | ((with_reducible refine t_vin ?_); decide) | ((with_reducible refine vp_in_nI ?_ ?_) <;> first | omega | decide) | (simp (disch := omega) only [xl_n, xl_m, nI_dec, nI_sb, nI_add, pk_mul]; (with_reducible refine vp_in_nI ?_ ?_) <;> first | omega | decide))); (conv => whnf))
      | (refine And.intro (by first | with_reducible assumption | exact (show tL _ = _ from rfl) | decide) ?_; (conv => whnf))
      | ((with_reducible refine @And.intro (_ = _) _ ?_ ?_); (· rfl); (conv => whnf))
      | ((with_reducible refine @And.intro (@LE.le Nat _ _ _) _ ?_ ?_); (· (first | exact Nat.zero_le _ | exact Nat.le_of_ble_eq_true rfl | omega)); (conv => whnf))
      | ((with_reducible refine @And.intro (@LT.lt Nat _ _ _) _ ?_ ?_); (· omega); (conv => whnf))
      | ((with_reducible refine @And.intro (∃ _, _ = _) _ ?_ ?_); (· exact ⟨_, rfl⟩); (conv => whnf))
      | ((with_reducible refine @And.intro (_ ∨ _) _ ?_ ?_); (· (first | exact Or.inl rfl | exact Or.inr rfl | exact t_b01 _ | assumption)); (conv => whnf))
      | ((with_reducible refine @And.intro (¬ (_ = _)) _ ?_ ?_); (· first | assumption | (with_reducible assumption)); (conv => whnf))
      | (refine hX _ _ _ _ _ _ ?_; (conv => whnf); fail_if_success show False)
      | (rw [t_si]; (conv => whnf))
      | (refine ⟨_, rfl, ?_⟩; (conv => whnf))
      | (refine ⟨_, _, rfl, ?_⟩; (conv => whnf))
      | (refine ⟨_, _, _, rfl, ?_⟩; (conv => whnf))
      | (refine ⟨_, _, _, _, rfl, ?_⟩; (conv => whnf))
      | (rw [e1]; (conv => whnf))
      | (refine And.intro (fun c => ?_) (fun c => ?_) <;> (first | (exact absurd c (by decide +kernel)) | (conv => whnf)))
      | fail)
    rw [q_net, f1, nI_clamp (by omega)] at hQ
    exact t_ask hQ hg t_sp.rf h01 rfl
  · rw [q_net] at hQ
    repeat' (first
      | ((with_reducible refine @And.intro (vp_in _ _) _ ?_ ?_); (· (first | with_reducible assumption | ((with_reducible refine t_vin ?_); decide) | ((with_reducible refine vp_in_nI ?_ ?_) <;> first | omega | decide) | (simp (disch := omega) only [xl_n, xl_m, nI_dec, nI_sb, nI_add, pk_mul]; (with_reducible refine vp_in_nI ?_ ?_) <;> first | omega | decide))); (conv => whnf))
      | (refine And.intro (by first | with_reducible assumption | exact (show tL _ = _ from rfl) | decide) ?_; (conv => whnf))
      | ((with_reducible refine @And.intro (_ = _) _ ?_ ?_); (· rfl); (conv => whnf))
      | ((with_reducible refine @And.intro (@LE.le Nat _ _ _) _ ?_ ?_); (· (first | exact Nat.zero_le _ | exact Nat.le_of_ble_eq_true rfl | omega)); (conv => whnf))
      | ((with_reducible refine @And.intro (@LT.lt Nat _ _ _) _ ?_ ?_); (· omega); (conv => whnf))
      | ((with_reducible refine @And.intro (∃ _, _ = _) _ ?_ ?_); (· exact ⟨_, rfl⟩); (conv => whnf))
      | ((with_reducible refine @And.intro (_ ∨ _) _ ?_ ?_); (· (first | exact Or.inl rfl | exact Or.inr rfl | exact t_b01 _ | assumption)); (conv => whnf))
      | ((with_reducible refine @And.intro (¬ (_ = _)) _ ?_ ?_); (· first | assumption | (with_reducible assumption)); (conv => whnf))
      | (refine hX _ _ _ _ _ _ ?_; (conv => whnf); fail_if_success show False)
      | (rw [t_si]; (conv => whnf))
      | (refine ⟨_, rfl, ?_⟩; (conv => whnf))
      | (refine ⟨_, _, rfl, ?_⟩; (conv => whnf))
      | (refine ⟨_, _, _, rfl, ?_⟩; (conv => whnf))
      | (refine ⟨_, _, _, _, rfl, ?_⟩; (conv => whnf))
      | (rw [e1]; (conv => whnf))
      | (refine And.intro (fun c => ?_) (fun c => ?_) <;> (first | (exact absurd c (by decide +kernel)) | (conv => whnf)))
      | fail)
    exact t_ref' hQ hg h01 (by simp [f1]) (by decide) rfl rfl
theorem ct_X11_net {Iv : xI} (hI : xm_good Iv) : xm_Ct Iv yX11_net (ws_ yX11_net cX11_net 2 (some .int)) 3 0 0 S_X11_net := xm_enter (rt := 0) (init := false) (by decide +kernel) rfl (fun h => by cases h) (Or.inl ⟨rfl, rfl⟩) (oX11_net hI) body_X11_net
theorem cv_X11_net {Iv : xI} {own : String} {cc : ByteArray} {fr pc idx : Nat} (hI : xm_good Iv) (hdg : decode cc pc = .ok (.invokevirtual idx, 3)) (hl : xm_ml own idx yX11_net) (hfr : 3 < fr) : xm_CallOK Iv own cc fr pc (pc + 3) 2 0 0 (xm_this 8 S_X11_net) := xm_callV 8 hI (ct_X11_net hI) hdg hl q2569 q2570 q145 q2571 rfl rfl (by decide +kernel) hfr (by decide)
def q_orphans (G : gG) : gR := g_says G (t_or (gm (gGK G)) fun p => !decide (g_lack (gGK G) (gnow G) p ≤ nI 0))
abbrev bX11_orphans_0 : List xE := [(.aload_n 0, 1, 0, 0, 0), (.iconst 0, 2, 0, 0, 0), (.putfield 134, 5, 8, 0, 0), (.iconst 0, 6, 0, 0, 0), (.istore_n 1, 7, 0, 0, 0), (.iconst 0, 8, 0, 0, 0), (.istore_n 2, 9, 0, 0, 0)]
abbrev bX11_orphans_9 : List xE := [(.iload_n 2, 10, 0, 0, 0), (.aload_n 0, 11, 0, 0, 0), (.getfield 23, 14, 8, 12, 1), (.iconst 1, 15, 0, 0, 0), (.iaload, 16, 0, 0, 0), (.if_icmp .ge 31, 19, 0, 47, 0), (.iload_n 1, 20, 0, 0, 0), (.aload_n 0, 21, 0, 0, 0), (.aload_n 0, 22, 0, 0, 0), (.getfield 91, 25, 8, 36, 1), (.iload_n 2, 26, 0, 0, 0), (.invokevirtual 341, 29, 0, 0, 9), (.ifCond .le 9, 32, 0, 38, 0), (.iconst 1, 33, 0, 0, 0), (.iload_n 2, 34, 0, 0, 0), (.ishl, 35, 0, 0, 0), (.goto 4, 38, 0, 39, 0)]
abbrev bX11_orphans_38 : List xE := [(.iconst 0, 39, 0, 0, 0)]
abbrev bX11_orphans_39 : List xE := [(.ior, 40, 0, 0, 0), (.istore_n 1, 41, 0, 0, 0), (.iinc 2 1, 44, 0, 0, 0), (.goto (-35), 47, 0, 9, 0)]
abbrev bX11_orphans_47 : List xE := [(.iload_n 1, 48, 0, 0, 0), (.ireturn, 49, 0, 0, 0)]
abbrev kX11_orphans : List (Nat × List xE) := [(0, bX11_orphans_0), (9, bX11_orphans_9), (38, bX11_orphans_38), (39, bX11_orphans_39), (47, bX11_orphans_47)]
abbrev lX11_orphans : List (Nat × Nat × Nat × xS) := [(3, 0, 0, xm_this 8 S_X11_lacksOf)]
theorem oX11_orphans_0 {Iv : xI} (hI : xm_good Iv)  : xm_okb Iv RX11 cX11_orphans false 3 lX11_orphans bX11_orphans_0 0 := xo_0 dX11_orphans_0 rfl trivial (xo_0 dX11_orphans_1 rfl trivial (xo_0 dX11_orphans_2 rfl (xm_fp_of (xm_fg_of (Or.inl q1955) (by decide) rfl (by decide) rfl rfl (Or.inl rfl) rfl) (by decide) rfl (Or.inl ⟨rfl, rfl⟩) rfl) (xo_0 dX11_orphans_5 rfl trivial (xo_0 dX11_orphans_6 rfl trivial (xo_0 dX11_orphans_7 rfl trivial (xo_0 dX11_orphans_8 rfl trivial (xo_n)))))))
theorem oX11_orphans_9 {Iv : xI} (hI : xm_good Iv)  : xm_okb Iv RX11 cX11_orphans false 3 lX11_orphans bX11_orphans_9 9 := xo_0 dX11_orphans_9 rfl trivial (xo_0 dX11_orphans_10 rfl trivial (xo_1 dX11_orphans_11 rfl (xm_fg_of (Or.inl q1967) (by decide) rfl (by decide) rfl rfl (Or.inl rfl) rfl) (xo_0 dX11_orphans_14 rfl trivial (xo_0 dX11_orphans_15 rfl trivial (xo_0 dX11_orphans_16 rfl rfl (xo_0 dX11_orphans_19 rfl trivial (xo_0 dX11_orphans_20 rfl trivial (xo_0 dX11_orphans_21 rfl trivial (xo_1 dX11_orphans_22 rfl (xm_fg_of (Or.inl q1991) (by decide) rfl (by decide) rfl rfl (Or.inl rfl) rfl) (xo_0 dX11_orphans_25 rfl trivial (xo_c rfl (cv_X11_lacksOf hI dX11_orphans_26 (Or.inl q2323) (by decide)) (xo_0 dX11_orphans_29 rfl rfl (xo_0 dX11_orphans_32 rfl trivial (xo_0 dX11_orphans_33 rfl trivial (xo_0 dX11_orphans_34 rfl trivial (xo_0 dX11_orphans_35 rfl rfl (xo_n)))))))))))))))))
theorem oX11_orphans_38 {Iv : xI} (hI : xm_good Iv)  : xm_okb Iv RX11 cX11_orphans false 3 lX11_orphans bX11_orphans_38 38 := xo_0 dX11_orphans_38 rfl trivial (xo_n)
theorem oX11_orphans_39 {Iv : xI} (hI : xm_good Iv)  : xm_okb Iv RX11 cX11_orphans false 3 lX11_orphans bX11_orphans_39 39 := xo_0 dX11_orphans_39 rfl trivial (xo_0 dX11_orphans_40 rfl trivial (xo_0 dX11_orphans_41 rfl trivial (xo_0 dX11_orphans_44 rfl rfl (xo_n))))
theorem oX11_orphans_47 {Iv : xI} (hI : xm_good Iv)  : xm_okb Iv RX11 cX11_orphans false 3 lX11_orphans bX11_orphans_47 47 := xo_0 dX11_orphans_47 rfl trivial (xo_0 dX11_orphans_48 rfl trivial (xo_n))
theorem oX11_orphans {Iv : xI} (hI : xm_good Iv)  : ∀ q ∈ kX11_orphans, xm_okb Iv RX11 cX11_orphans false 3 lX11_orphans q.2 q.1 := by
  intro q hq
  simp only [List.mem_cons, List.not_mem_nil, or_false] at hq
  rcases hq with rfl | rfl | rfl | rfl | rfl
  · exact oX11_orphans_0 hI  
  · exact oX11_orphans_9 hI  
  · exact oX11_orphans_38 hI  
  · exact oX11_orphans_39 hI  
  · exact oX11_orphans_47 hI  
def S_X11_orphans : xS := tU fun as I Q => as = [.ref 0] ∧ t_good I ∧ t_P Q (q_orphans (tG I))
theorem body_X11_orphans : xm_Body 3 0 0 0 [] lX11_orphans kX11_orphans S_X11_orphans := by
  intro X avs w Q QX hX0 hS
  have hG := xm_go [] hX0
  have hX := xm_go [9] hX0
  clear hX0
  obtain ⟨I, rfl, rfl, hg, hQ⟩ := hS
  refine ⟨rfl, ?_⟩
  repeat' (first
    | ((with_reducible refine @And.intro (vp_in _ _) _ ?_ ?_); (· (first | with_reducible assumption | ((with_reducible refine t_vin ?_); decide) | ((with_reducible refine vp_in_nI ?_ ?_) <;> first | omega | decide) | (simp (disch := omega) only [xl_n, xl_m, nI_dec, nI_sb, nI_add, pk_mul]; (with_reducible refine vp_in_nI ?_ ?_) <;> first | omega | decide))); (conv => whnf))
    | (refine And.intro (by first | with_reducible assumption | exact (show tL _ = _ from rfl) | decide) ?_; (conv => whnf))
    | ((with_reducible refine @And.intro (_ = _) _ ?_ ?_); (· rfl); (conv => whnf))
    | ((with_reducible refine @And.intro (@LE.le Nat _ _ _) _ ?_ ?_); (· (first | exact Nat.zero_le _ | exact Nat.le_of_ble_eq_true rfl | omega)); (conv => whnf))
    | ((with_reducible refine @And.intro (@LT.lt Nat _ _ _) _ ?_ ?_); (· omega); (conv => whnf))
    | ((with_reducible refine @And.intro (∃ _, _ = _) _ ?_ ?_); (· exact ⟨_, rfl⟩); (conv => whnf))
    | ((with_reducible refine @And.intro (_ ∨ _) _ ?_ ?_); (· (first | exact Or.inl rfl | exact Or.inr rfl | exact t_b01 _ | assumption)); (conv => whnf))
    | ((with_reducible refine @And.intro (¬ (_ = _)) _ ?_ ?_); (· first | assumption | (with_reducible assumption)); (conv => whnf))
    | (refine hX _ _ _ _ _ _ ?_; (conv => whnf); fail_if_success show False)
    | fail)
  rw [t_si]
  obtain ⟨J, hJ, hg1, hG1, h01⟩ := t_pub hg
  rw [← hJ]
  rw [← hG1] at hQ
  clear hJ hG1 hg I
  have hg := hg1
  have hok := hg.1
  have hl := hg.2.1
  have h8 := hok.2.2.2.1
  have h9 := hok.2.1
  (conv => whnf)
  have hm := hok.2.2.1
  have loop : ∀ k, k ≤ t_p J → X 9 [some (.ref 0), some (.int (t_or k fun p => !decide (g_lack (tK J) (tA J 36) p ≤ nI 0))), some (.int (nI k))] [] (tW J) 0 0 := by
    refine t_for fun k h1 ih => ?_
    refine hG _ _ _ _ _ _ ?_
    (conv => whnf)
    repeat' (first
      | ((with_reducible refine @And.intro (vp_in _ _) _ ?_ ?_); (· (first | with_reducible assumption | ((with_reducible refine t_vin ?_); decide) | ((with_reducible refine vp_in_nI ?_ ?_) <;> first | omega | decide) | (simp (disch := omega) only [xl_n, xl_m, nI_dec, nI_sb, nI_add, pk_mul]; (with_reducible refine vp_in_nI ?_ ?_) <;> first | omega | decide))); (conv => whnf))
      | (refine And.intro (by first | with_reducible assumption | exact (show tL _ = _ from rfl) | decide) ?_; (conv => whnf))
      | ((with_reducible refine @And.intro (_ = _) _ ?_ ?_); (· rfl); (conv => whnf))
      | ((with_reducible refine @And.intro (@LE.le Nat _ _ _) _ ?_ ?_); (· (first | exact Nat.zero_le _ | exact Nat.le_of_ble_eq_true rfl | omega)); (conv => whnf))
      | ((with_reducible refine @And.intro (@LT.lt Nat _ _ _) _ ?_ ?_); (· omega); (conv => whnf))
      | ((with_reducible refine @And.intro (∃ _, _ = _) _ ?_ ?_); (· exact ⟨_, rfl⟩); (conv => whnf))
      | ((with_reducible refine @And.intro (_ ∨ _) _ ?_ ?_); (· (first | exact Or.inl rfl | exact Or.inr rfl | exact t_b01 _ | assumption)); (conv => whnf))
      | ((with_reducible refine @And.intro (¬ (_ = _)) _ ?_ ?_); (· first | assumption | (with_reducible assumption)); (conv => whnf))
      | (refine hX _ _ _ _ _ _ ?_; (conv => whnf); fail_if_success show False)
      | (rw [t_si]; (conv => whnf))
      | (refine ⟨_, rfl, ?_⟩; (conv => whnf))
      | (refine ⟨_, _, rfl, ?_⟩; (conv => whnf))
      | (refine ⟨_, _, _, rfl, ?_⟩; (conv => whnf))
      | (refine ⟨_, _, _, _, rfl, ?_⟩; (conv => whnf))
      | fail)
    refine And.intro (fun c => ?_) (fun c => ?_) <;> (conv => whnf)
    · repeat' (first
        | ((with_reducible refine @And.intro (vp_in _ _) _ ?_ ?_); (· (first | with_reducible assumption | ((with_reducible refine t_vin ?_); decide) | ((with_reducible refine vp_in_nI ?_ ?_) <;> first | omega | decide) | (simp (disch := omega) only [xl_n, xl_m, nI_dec, nI_sb, nI_add, pk_mul]; (with_reducible refine vp_in_nI ?_ ?_) <;> first | omega | decide))); (conv => whnf))
        | (refine And.intro (by first | with_reducible assumption | exact (show tL _ = _ from rfl) | decide) ?_; (conv => whnf))
        | ((with_reducible refine @And.intro (_ = _) _ ?_ ?_); (· rfl); (conv => whnf))
        | ((with_reducible refine @And.intro (@LE.le Nat _ _ _) _ ?_ ?_); (· (first | exact Nat.zero_le _ | exact Nat.le_of_ble_eq_true rfl | omega)); (conv => whnf))
        | ((with_reducible refine @And.intro (@LT.lt Nat _ _ _) _ ?_ ?_); (· omega); (conv => whnf))
        | ((with_reducible refine @And.intro (∃ _, _ = _) _ ?_ ?_); (· exact ⟨_, rfl⟩); (conv => whnf))
        | ((with_reducible refine @And.intro (_ ∨ _) _ ?_ ?_); (· (first | exact Or.inl rfl | exact Or.inr rfl | exact t_b01 _ | assumption)); (conv => whnf))
        | ((with_reducible refine @And.intro (¬ (_ = _)) _ ?_ ?_); (· first | assumption | (with_reducible assumption)); (conv => whnf))
        | (refine hX _ _ _ _ _ _ ?_; (conv => whnf); fail_if_success show False)
        | (rw [t_si]; (conv => whnf))
        | (refine ⟨_, rfl, ?_⟩; (conv => whnf))
        | (refine ⟨_, _, rfl, ?_⟩; (conv => whnf))
        | (refine ⟨_, _, _, rfl, ?_⟩; (conv => whnf))
        | (refine ⟨_, _, _, _, rfl, ?_⟩; (conv => whnf))
        | fail)
      have : k = t_p J := Nat.le_antisymm h1 (t_kge hm c (by omega) (by omega))
      subst this
      exact t_ask hQ hg t_sp.rf h01 rfl
    · have hk : k < t_p J := t_klt hm c (by omega)
      have := ih (k + 1) (by omega) (by omega)
      clear ih
      repeat' (first
        | ((with_reducible refine @And.intro (vp_in _ _) _ ?_ ?_); (· (first | with_reducible assumption | ((with_reducible refine t_vin ?_); decide) | ((with_reducible refine vp_in_nI ?_ ?_) <;> first | omega | decide) | (simp (disch := omega) only [xl_n, xl_m, nI_dec, nI_sb, nI_add, pk_mul]; (with_reducible refine vp_in_nI ?_ ?_) <;> first | omega | decide))); (conv => whnf))
        | (refine And.intro (by first | with_reducible assumption | exact (show tL _ = _ from rfl) | decide) ?_; (conv => whnf))
        | ((with_reducible refine @And.intro (_ = _) _ ?_ ?_); (· rfl); (conv => whnf))
        | ((with_reducible refine @And.intro (@LE.le Nat _ _ _) _ ?_ ?_); (· (first | exact Nat.zero_le _ | exact Nat.le_of_ble_eq_true rfl | omega)); (conv => whnf))
        | ((with_reducible refine @And.intro (@LT.lt Nat _ _ _) _ ?_ ?_); (· omega); (conv => whnf))
        | ((with_reducible refine @And.intro (∃ _, _ = _) _ ?_ ?_); (· exact ⟨_, rfl⟩); (conv => whnf))
        | ((with_reducible refine @And.intro (_ ∨ _) _ ?_ ?_); (· (first | exact Or.inl rfl | exact Or.inr rfl | exact t_b01 _ | assumption)); (conv => whnf))
        | ((with_reducible refine @And.intro (¬ (_ = _)) _ ?_ ?_); (· first | assumption | (with_reducible assumption)); (conv => whnf))
        | (refine hX _ _ _ _ _ _ ?_; (conv => whnf); fail_if_success show False)
        | (rw [t_si]; (conv => whnf))
        | (refine ⟨_, rfl, ?_⟩; (conv => whnf))
        | (refine ⟨_, _, rfl, ?_⟩; (conv => whnf))
        | (refine ⟨_, _, _, rfl, ?_⟩; (conv => whnf))
        | (refine ⟨_, _, _, _, rfl, ?_⟩; (conv => whnf))
        | (refine And.intro (fun c => ?_) (fun c => ?_) <;> (first | (exact absurd c (by decide +kernel)) | (conv => whnf)))
        | fail)
      all_goals clear hX hG hQ
      all_goals simp (disch := omega) only [xl_n, xl_m, nI_dec, nI_sb, xl_0, xl_1, tW_i, t_bn0, t_bn1, Classical.not_not, t_lt, nI_add, nI_1, pk_mul, nI_clamp, t_si, nI_eq, nI_leI, nM_ne, nM_ne, xm_set, xm_lv0, xm_psh] at *
      all_goals simpa [t_or_s, t_bit, c] using this
  repeat' (first
    | ((with_reducible refine @And.intro (vp_in _ _) _ ?_ ?_); (· (first | with_reducible assumption | ((with_reducible refine t_vin ?_); decide) | ((with_reducible refine vp_in_nI ?_ ?_) <;> first | omega | decide) | (simp (disch := omega) only [xl_n, xl_m, nI_dec, nI_sb, nI_add, pk_mul]; (with_reducible refine vp_in_nI ?_ ?_) <;> first | omega | decide))); (conv => whnf))
    | (refine And.intro (by first | with_reducible assumption | exact (show tL _ = _ from rfl) | decide) ?_; (conv => whnf))
    | ((with_reducible refine @And.intro (_ = _) _ ?_ ?_); (· rfl); (conv => whnf))
    | ((with_reducible refine @And.intro (@LE.le Nat _ _ _) _ ?_ ?_); (· (first | exact Nat.zero_le _ | exact Nat.le_of_ble_eq_true rfl | omega)); (conv => whnf))
    | ((with_reducible refine @And.intro (@LT.lt Nat _ _ _) _ ?_ ?_); (· omega); (conv => whnf))
    | ((with_reducible refine @And.intro (∃ _, _ = _) _ ?_ ?_); (· exact ⟨_, rfl⟩); (conv => whnf))
    | ((with_reducible refine @And.intro (_ ∨ _) _ ?_ ?_); (· (first | exact Or.inl rfl | exact Or.inr rfl | exact t_b01 _ | assumption)); (conv => whnf))
    | ((with_reducible refine @And.intro (¬ (_ = _)) _ ?_ ?_); (· first | assumption | (with_reducible assumption)); (conv => whnf))
    | (refine hX _ _ _ _ _ _ ?_; (conv => whnf); fail_if_success show False)
    | (rw [t_si]; (conv => whnf))
    | (refine ⟨_, rfl, ?_⟩; (conv => whnf))
    | (refine ⟨_, _, rfl, ?_⟩; (conv => whnf))
    | (refine ⟨_, _, _, rfl, ?_⟩; (conv => whnf))
    | (refine ⟨_, _, _, _, rfl, ?_⟩; (conv => whnf))
    | (refine And.intro (fun c => ?_) (fun c => ?_) <;> (first | (exact absurd c (by decide +kernel)) | (conv => whnf)))
    | fail)
  exact loop 0 (Nat.zero_le _)
theorem ct_X11_orphans {Iv : xI} (hI : xm_good Iv) : xm_Ct Iv yX11_orphans (ws_ yX11_orphans cX11_orphans 3 (some .int)) 3 0 0 S_X11_orphans := xm_enter (rt := 0) (init := false) (by decide +kernel) rfl (fun h => by cases h) (Or.inl ⟨rfl, rfl⟩) (oX11_orphans hI) body_X11_orphans
theorem cv_X11_orphans {Iv : xI} {own : String} {cc : ByteArray} {fr pc idx : Nat} (hI : xm_good Iv) (hdg : decode cc pc = .ok (.invokevirtual idx, 3)) (hl : xm_ml own idx yX11_orphans) (hfr : 3 < fr) : xm_CallOK Iv own cc fr pc (pc + 3) 1 0 0 (xm_this 8 S_X11_orphans) := xm_callV 8 hI (ct_X11_orphans hI) hdg hl q2581 q2582 q145 q2583 rfl rfl (by decide +kernel) hfr (by decide)
def q_idle (G : gG) : gR := g_says G (t_or (gn (gGK G)) fun h => g_al (gGK G) (gnow G) h && decide (g_work (gGK G) (gnow G) h = nI 0))
abbrev bX11_idle_0 : List xE := [(.aload_n 0, 1, 0, 0, 0), (.iconst 0, 2, 0, 0, 0), (.putfield 134, 5, 8, 0, 0), (.iconst 0, 6, 0, 0, 0), (.istore_n 1, 7, 0, 0, 0), (.iconst 0, 8, 0, 0, 0), (.istore_n 2, 9, 0, 0, 0)]
abbrev bX11_idle_9 : List xE := [(.iload_n 2, 10, 0, 0, 0), (.aload_n 0, 11, 0, 0, 0), (.getfield 23, 14, 8, 12, 1), (.iconst 0, 15, 0, 0, 0), (.iaload, 16, 0, 0, 0), (.if_icmp .ge 43, 19, 0, 59, 0), (.iload_n 1, 20, 0, 0, 0), (.aload_n 0, 21, 0, 0, 0), (.aload_n 0, 22, 0, 0, 0), (.getfield 91, 25, 8, 36, 1), (.iload_n 2, 26, 0, 0, 0), (.invokevirtual 320, 29, 0, 0, 9), (.ifCond .eq 21, 32, 0, 50, 0), (.aload_n 0, 33, 0, 0, 0), (.aload_n 0, 34, 0, 0, 0), (.getfield 91, 37, 8, 36, 1), (.iload_n 2, 38, 0, 0, 0), (.invokevirtual 334, 41, 0, 1, 9), (.ifCond .ne 9, 44, 0, 50, 0), (.iconst 1, 45, 0, 0, 0), (.iload_n 2, 46, 0, 0, 0), (.ishl, 47, 0, 0, 0), (.goto 4, 50, 0, 51, 0)]
abbrev bX11_idle_50 : List xE := [(.iconst 0, 51, 0, 0, 0)]
abbrev bX11_idle_51 : List xE := [(.ior, 52, 0, 0, 0), (.istore_n 1, 53, 0, 0, 0), (.iinc 2 1, 56, 0, 0, 0), (.goto (-47), 59, 0, 9, 0)]
abbrev bX11_idle_59 : List xE := [(.iload_n 1, 60, 0, 0, 0), (.ireturn, 61, 0, 0, 0)]
abbrev kX11_idle : List (Nat × List xE) := [(0, bX11_idle_0), (9, bX11_idle_9), (50, bX11_idle_50), (51, bX11_idle_51), (59, bX11_idle_59)]
abbrev lX11_idle : List (Nat × Nat × Nat × xS) := [(3, 0, 0, xm_this 8 S_X11_isAlive), (3, 0, 0, xm_this 8 S_X11_workOf)]
theorem oX11_idle_0 {Iv : xI} (hI : xm_good Iv)  : xm_okb Iv RX11 cX11_idle false 3 lX11_idle bX11_idle_0 0 := xo_0 dX11_idle_0 rfl trivial (xo_0 dX11_idle_1 rfl trivial (xo_0 dX11_idle_2 rfl (xm_fp_of (xm_fg_of (Or.inl q1955) (by decide) rfl (by decide) rfl rfl (Or.inl rfl) rfl) (by decide) rfl (Or.inl ⟨rfl, rfl⟩) rfl) (xo_0 dX11_idle_5 rfl trivial (xo_0 dX11_idle_6 rfl trivial (xo_0 dX11_idle_7 rfl trivial (xo_0 dX11_idle_8 rfl trivial (xo_n)))))))
theorem oX11_idle_9 {Iv : xI} (hI : xm_good Iv)  : xm_okb Iv RX11 cX11_idle false 3 lX11_idle bX11_idle_9 9 := xo_0 dX11_idle_9 rfl trivial (xo_0 dX11_idle_10 rfl trivial (xo_1 dX11_idle_11 rfl (xm_fg_of (Or.inl q1967) (by decide) rfl (by decide) rfl rfl (Or.inl rfl) rfl) (xo_0 dX11_idle_14 rfl trivial (xo_0 dX11_idle_15 rfl trivial (xo_0 dX11_idle_16 rfl rfl (xo_0 dX11_idle_19 rfl trivial (xo_0 dX11_idle_20 rfl trivial (xo_0 dX11_idle_21 rfl trivial (xo_1 dX11_idle_22 rfl (xm_fg_of (Or.inl q1991) (by decide) rfl (by decide) rfl rfl (Or.inl rfl) rfl) (xo_0 dX11_idle_25 rfl trivial (xo_c rfl (cv_X11_isAlive hI dX11_idle_26 (Or.inl q2292) (by decide)) (xo_0 dX11_idle_29 rfl rfl (xo_0 dX11_idle_32 rfl trivial (xo_0 dX11_idle_33 rfl trivial (xo_1 dX11_idle_34 rfl (xm_fg_of (Or.inl q1991) (by decide) rfl (by decide) rfl rfl (Or.inl rfl) rfl) (xo_0 dX11_idle_37 rfl trivial (xo_c rfl (cv_X11_workOf hI dX11_idle_38 (Or.inl q2308) (by decide)) (xo_0 dX11_idle_41 rfl rfl (xo_0 dX11_idle_44 rfl trivial (xo_0 dX11_idle_45 rfl trivial (xo_0 dX11_idle_46 rfl trivial (xo_0 dX11_idle_47 rfl rfl (xo_n)))))))))))))))))))))))
theorem oX11_idle_50 {Iv : xI} (hI : xm_good Iv)  : xm_okb Iv RX11 cX11_idle false 3 lX11_idle bX11_idle_50 50 := xo_0 dX11_idle_50 rfl trivial (xo_n)
theorem oX11_idle_51 {Iv : xI} (hI : xm_good Iv)  : xm_okb Iv RX11 cX11_idle false 3 lX11_idle bX11_idle_51 51 := xo_0 dX11_idle_51 rfl trivial (xo_0 dX11_idle_52 rfl trivial (xo_0 dX11_idle_53 rfl trivial (xo_0 dX11_idle_56 rfl rfl (xo_n))))
theorem oX11_idle_59 {Iv : xI} (hI : xm_good Iv)  : xm_okb Iv RX11 cX11_idle false 3 lX11_idle bX11_idle_59 59 := xo_0 dX11_idle_59 rfl trivial (xo_0 dX11_idle_60 rfl trivial (xo_n))
theorem oX11_idle {Iv : xI} (hI : xm_good Iv)  : ∀ q ∈ kX11_idle, xm_okb Iv RX11 cX11_idle false 3 lX11_idle q.2 q.1 := by
  intro q hq
  simp only [List.mem_cons, List.not_mem_nil, or_false] at hq
  rcases hq with rfl | rfl | rfl | rfl | rfl
  · exact oX11_idle_0 hI  
  · exact oX11_idle_9 hI  
  · exact oX11_idle_50 hI  
  · exact oX11_idle_51 hI  
  · exact oX11_idle_59 hI  
def S_X11_idle : xS := tU fun as I Q => as = [.ref 0] ∧ t_good I ∧ t_P Q (q_idle (tG I))
theorem body_X11_idle : xm_Body 3 0 0 0 [] lX11_idle kX11_idle S_X11_idle := by
  intro X avs w Q QX hX0 hS
  have hG := xm_go [] hX0
  have hX := xm_go [9] hX0
  clear hX0
  obtain ⟨I, rfl, rfl, hg, hQ⟩ := hS
  refine ⟨rfl, ?_⟩
  repeat' (first
    | ((with_reducible refine @And.intro (vp_in _ _) _ ?_ ?_); (· (first | with_reducible assumption | ((with_reducible refine t_vin ?_); decide) | ((with_reducible refine vp_in_nI ?_ ?_) <;> first | omega | decide) | (simp (disch := omega) only [xl_n, xl_m, nI_dec, nI_sb, nI_add, pk_mul]; (with_reducible refine vp_in_nI ?_ ?_) <;> first | omega | decide))); (conv => whnf))
    | (refine And.intro (by first | with_reducible assumption | exact (show tL _ = _ from rfl) | decide) ?_; (conv => whnf))
    | ((with_reducible refine @And.intro (_ = _) _ ?_ ?_); (· rfl); (conv => whnf))
    | ((with_reducible refine @And.intro (@LE.le Nat _ _ _) _ ?_ ?_); (· (first | exact Nat.zero_le _ | exact Nat.le_of_ble_eq_true rfl | omega)); (conv => whnf))
    | ((with_reducible refine @And.intro (@LT.lt Nat _ _ _) _ ?_ ?_); (· omega); (conv => whnf))
    | ((with_reducible refine @And.intro (∃ _, _ = _) _ ?_ ?_); (· exact ⟨_, rfl⟩); (conv => whnf))
    | ((with_reducible refine @And.intro (_ ∨ _) _ ?_ ?_); (· (first | exact Or.inl rfl | exact Or.inr rfl | exact t_b01 _ | assumption)); (conv => whnf))
    | ((with_reducible refine @And.intro (¬ (_ = _)) _ ?_ ?_); (· first | assumption | (with_reducible assumption)); (conv => whnf))
    | (refine hX _ _ _ _ _ _ ?_; (conv => whnf); fail_if_success show False)
    | fail)
  rw [t_si]
  obtain ⟨J, hJ, hg1, hG1, h01⟩ := t_pub hg
  rw [← hJ]
  rw [← hG1] at hQ
  clear hJ hG1 hg I
  have hg := hg1
  have hok := hg.1
  have hl := hg.2.1
  have h8 := hok.2.2.2.1
  have h9 := hok.2.1
  (conv => whnf)
  have hn := hok.1
  have loop : ∀ k, k ≤ t_h J → X 9 [some (.ref 0), some (.int (t_or k fun h => g_al (tK J) (tA J 36) h && decide (g_work (tK J) (tA J 36) h = nI 0))), some (.int (nI k))] [] (tW J) 0 0 := by
    refine t_for fun k h1 ih => ?_
    refine hG _ _ _ _ _ _ ?_
    (conv => whnf)
    repeat' (first
      | ((with_reducible refine @And.intro (vp_in _ _) _ ?_ ?_); (· (first | with_reducible assumption | ((with_reducible refine t_vin ?_); decide) | ((with_reducible refine vp_in_nI ?_ ?_) <;> first | omega | decide) | (simp (disch := omega) only [xl_n, xl_m, nI_dec, nI_sb, nI_add, pk_mul]; (with_reducible refine vp_in_nI ?_ ?_) <;> first | omega | decide))); (conv => whnf))
      | (refine And.intro (by first | with_reducible assumption | exact (show tL _ = _ from rfl) | decide) ?_; (conv => whnf))
      | ((with_reducible refine @And.intro (_ = _) _ ?_ ?_); (· rfl); (conv => whnf))
      | ((with_reducible refine @And.intro (@LE.le Nat _ _ _) _ ?_ ?_); (· (first | exact Nat.zero_le _ | exact Nat.le_of_ble_eq_true rfl | omega)); (conv => whnf))
      | ((with_reducible refine @And.intro (@LT.lt Nat _ _ _) _ ?_ ?_); (· omega); (conv => whnf))
      | ((with_reducible refine @And.intro (∃ _, _ = _) _ ?_ ?_); (· exact ⟨_, rfl⟩); (conv => whnf))
      | ((with_reducible refine @And.intro (_ ∨ _) _ ?_ ?_); (· (first | exact Or.inl rfl | exact Or.inr rfl | exact t_b01 _ | assumption)); (conv => whnf))
      | ((with_reducible refine @And.intro (¬ (_ = _)) _ ?_ ?_); (· first | assumption | (with_reducible assumption)); (conv => whnf))
      | (refine hX _ _ _ _ _ _ ?_; (conv => whnf); fail_if_success show False)
      | (rw [t_si]; (conv => whnf))
      | (refine ⟨_, rfl, ?_⟩; (conv => whnf))
      | (refine ⟨_, _, rfl, ?_⟩; (conv => whnf))
      | (refine ⟨_, _, _, rfl, ?_⟩; (conv => whnf))
      | (refine ⟨_, _, _, _, rfl, ?_⟩; (conv => whnf))
      | fail)
    refine And.intro (fun c => ?_) (fun c => ?_) <;> (conv => whnf)
    · repeat' (first
        | ((with_reducible refine @And.intro (vp_in _ _) _ ?_ ?_); (· (first | with_reducible assumption | ((with_reducible refine t_vin ?_); decide) | ((with_reducible refine vp_in_nI ?_ ?_) <;> first | omega | decide) | (simp (disch := omega) only [xl_n, xl_m, nI_dec, nI_sb, nI_add, pk_mul]; (with_reducible refine vp_in_nI ?_ ?_) <;> first | omega | decide))); (conv => whnf))
        | (refine And.intro (by first | with_reducible assumption | exact (show tL _ = _ from rfl) | decide) ?_; (conv => whnf))
        | ((with_reducible refine @And.intro (_ = _) _ ?_ ?_); (· rfl); (conv => whnf))
        | ((with_reducible refine @And.intro (@LE.le Nat _ _ _) _ ?_ ?_); (· (first | exact Nat.zero_le _ | exact Nat.le_of_ble_eq_true rfl | omega)); (conv => whnf))
        | ((with_reducible refine @And.intro (@LT.lt Nat _ _ _) _ ?_ ?_); (· omega); (conv => whnf))
        | ((with_reducible refine @And.intro (∃ _, _ = _) _ ?_ ?_); (· exact ⟨_, rfl⟩); (conv => whnf))
        | ((with_reducible refine @And.intro (_ ∨ _) _ ?_ ?_); (· (first | exact Or.inl rfl | exact Or.inr rfl | exact t_b01 _ | assumption)); (conv => whnf))
        | ((with_reducible refine @And.intro (¬ (_ = _)) _ ?_ ?_); (· first | assumption | (with_reducible assumption)); (conv => whnf))
        | (refine hX _ _ _ _ _ _ ?_; (conv => whnf); fail_if_success show False)
        | (rw [t_si]; (conv => whnf))
        | (refine ⟨_, rfl, ?_⟩; (conv => whnf))
        | (refine ⟨_, _, rfl, ?_⟩; (conv => whnf))
        | (refine ⟨_, _, _, rfl, ?_⟩; (conv => whnf))
        | (refine ⟨_, _, _, _, rfl, ?_⟩; (conv => whnf))
        | fail)
      have : k = t_h J := Nat.le_antisymm h1 (t_kge hn c (by omega) (by omega))
      subst this
      exact t_ask hQ hg t_sp.rf h01 rfl
    · have hk : k < t_h J := t_klt hn c (by omega)
      have := ih (k + 1) (by omega) (by omega)
      clear ih
      repeat' (first
        | ((with_reducible refine @And.intro (vp_in _ _) _ ?_ ?_); (· (first | with_reducible assumption | ((with_reducible refine t_vin ?_); decide) | ((with_reducible refine vp_in_nI ?_ ?_) <;> first | omega | decide) | (simp (disch := omega) only [xl_n, xl_m, nI_dec, nI_sb, nI_add, pk_mul]; (with_reducible refine vp_in_nI ?_ ?_) <;> first | omega | decide))); (conv => whnf))
        | (refine And.intro (by first | with_reducible assumption | exact (show tL _ = _ from rfl) | decide) ?_; (conv => whnf))
        | ((with_reducible refine @And.intro (_ = _) _ ?_ ?_); (· rfl); (conv => whnf))
        | ((with_reducible refine @And.intro (@LE.le Nat _ _ _) _ ?_ ?_); (· (first | exact Nat.zero_le _ | exact Nat.le_of_ble_eq_true rfl | omega)); (conv => whnf))
        | ((with_reducible refine @And.intro (@LT.lt Nat _ _ _) _ ?_ ?_); (· omega); (conv => whnf))
        | ((with_reducible refine @And.intro (∃ _, _ = _) _ ?_ ?_); (· exact ⟨_, rfl⟩); (conv => whnf))
        | ((with_reducible refine @And.intro (_ ∨ _) _ ?_ ?_); (· (first | exact Or.inl rfl | exact Or.inr rfl | exact t_b01 _ | assumption)); (conv => whnf))
        | ((with_reducible refine @And.intro (¬ (_ = _)) _ ?_ ?_); (· first | assumption | (with_reducible assumption)); (conv => whnf))
        | (refine hX _ _ _ _ _ _ ?_; (conv => whnf); fail_if_success show False)
        | (rw [t_si]; (conv => whnf))
        | (refine ⟨_, rfl, ?_⟩; (conv => whnf))
        | (refine ⟨_, _, rfl, ?_⟩; (conv => whnf))
        | (refine ⟨_, _, _, rfl, ?_⟩; (conv => whnf))
        | (refine ⟨_, _, _, _, rfl, ?_⟩; (conv => whnf))
        | (refine And.intro (fun c => ?_) (fun c => ?_) <;> (first | (exact absurd c (by decide +kernel)) | (conv => whnf)))
        | fail)
      all_goals clear hX hG hQ
      all_goals simp (disch := omega) only [xl_n, xl_m, nI_dec, nI_sb, xl_0, xl_1, tW_i, t_bn0, t_bn1, Classical.not_not, t_lt, nI_add, nI_1, pk_mul, nI_clamp, t_si, nI_eq, nI_leI, nM_ne, nM_ne, xm_set, xm_lv0, xm_psh] at *
      all_goals simpa [t_or_s, t_bit, *] using this
  repeat' (first
    | ((with_reducible refine @And.intro (vp_in _ _) _ ?_ ?_); (· (first | with_reducible assumption | ((with_reducible refine t_vin ?_); decide) | ((with_reducible refine vp_in_nI ?_ ?_) <;> first | omega | decide) | (simp (disch := omega) only [xl_n, xl_m, nI_dec, nI_sb, nI_add, pk_mul]; (with_reducible refine vp_in_nI ?_ ?_) <;> first | omega | decide))); (conv => whnf))
    | (refine And.intro (by first | with_reducible assumption | exact (show tL _ = _ from rfl) | decide) ?_; (conv => whnf))
    | ((with_reducible refine @And.intro (_ = _) _ ?_ ?_); (· rfl); (conv => whnf))
    | ((with_reducible refine @And.intro (@LE.le Nat _ _ _) _ ?_ ?_); (· (first | exact Nat.zero_le _ | exact Nat.le_of_ble_eq_true rfl | omega)); (conv => whnf))
    | ((with_reducible refine @And.intro (@LT.lt Nat _ _ _) _ ?_ ?_); (· omega); (conv => whnf))
    | ((with_reducible refine @And.intro (∃ _, _ = _) _ ?_ ?_); (· exact ⟨_, rfl⟩); (conv => whnf))
    | ((with_reducible refine @And.intro (_ ∨ _) _ ?_ ?_); (· (first | exact Or.inl rfl | exact Or.inr rfl | exact t_b01 _ | assumption)); (conv => whnf))
    | ((with_reducible refine @And.intro (¬ (_ = _)) _ ?_ ?_); (· first | assumption | (with_reducible assumption)); (conv => whnf))
    | (refine hX _ _ _ _ _ _ ?_; (conv => whnf); fail_if_success show False)
    | (rw [t_si]; (conv => whnf))
    | (refine ⟨_, rfl, ?_⟩; (conv => whnf))
    | (refine ⟨_, _, rfl, ?_⟩; (conv => whnf))
    | (refine ⟨_, _, _, rfl, ?_⟩; (conv => whnf))
    | (refine ⟨_, _, _, _, rfl, ?_⟩; (conv => whnf))
    | (refine And.intro (fun c => ?_) (fun c => ?_) <;> (first | (exact absurd c (by decide +kernel)) | (conv => whnf)))
    | fail)
  exact loop 0 (Nat.zero_le _)
theorem ct_X11_idle {Iv : xI} (hI : xm_good Iv) : xm_Ct Iv yX11_idle (ws_ yX11_idle cX11_idle 3 (some .int)) 3 0 0 S_X11_idle := xm_enter (rt := 0) (init := false) (by decide +kernel) rfl (fun h => by cases h) (Or.inl ⟨rfl, rfl⟩) (oX11_idle hI) body_X11_idle
theorem cv_X11_idle {Iv : xI} {own : String} {cc : ByteArray} {fr pc idx : Nat} (hI : xm_good Iv) (hdg : decode cc pc = .ok (.invokevirtual idx, 3)) (hl : xm_ml own idx yX11_idle) (hfr : 3 < fr) : xm_CallOK Iv own cc fr pc (pc + 3) 1 0 0 (xm_this 8 S_X11_idle) := xm_callV 8 hI (ct_X11_idle hI) hdg hl q2585 q2586 q145 q2587 rfl rfl (by decide +kernel) hfr (by decide)
