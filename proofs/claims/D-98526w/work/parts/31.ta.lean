/-! ===== the reference's small methods ===== -/
set_option maxRecDepth 100000
abbrev bX11_has_0 : List xE := [(.iload_n 0, 1, 0, 0, 0), (.iload_n 1, 2, 0, 0, 0), (.ishr, 3, 0, 0, 0), (.iconst 1, 4, 0, 0, 0), (.iand, 5, 0, 0, 0), (.iconst 1, 6, 0, 0, 0), (.if_icmp .ne 7, 9, 0, 13, 0), (.iconst 1, 10, 0, 0, 0), (.goto 4, 13, 0, 14, 0)]
abbrev bX11_has_13 : List xE := [(.iconst 0, 14, 0, 0, 0)]
abbrev bX11_has_14 : List xE := [(.ireturn, 15, 0, 0, 0)]
abbrev kX11_has : List (Nat × List xE) := [(0, bX11_has_0), (13, bX11_has_13), (14, bX11_has_14)]
abbrev lX11_has : List (Nat × Nat × Nat × xS) := []
theorem oX11_has_0 {Iv : xI} (hI : xm_good Iv)  : xm_okb Iv RX11 cX11_has false 1 lX11_has bX11_has_0 0 := xo_0 dX11_has_0 rfl trivial (xo_0 dX11_has_1 rfl trivial (xo_0 dX11_has_2 rfl trivial (xo_0 dX11_has_3 rfl trivial (xo_0 dX11_has_4 rfl trivial (xo_0 dX11_has_5 rfl trivial (xo_0 dX11_has_6 rfl rfl (xo_0 dX11_has_9 rfl trivial (xo_0 dX11_has_10 rfl rfl (xo_n)))))))))
theorem oX11_has_13 {Iv : xI} (hI : xm_good Iv)  : xm_okb Iv RX11 cX11_has false 1 lX11_has bX11_has_13 13 := xo_0 dX11_has_13 rfl trivial (xo_n)
theorem oX11_has_14 {Iv : xI} (hI : xm_good Iv)  : xm_okb Iv RX11 cX11_has false 1 lX11_has bX11_has_14 14 := xo_0 dX11_has_14 rfl trivial (xo_n)
theorem oX11_has {Iv : xI} (hI : xm_good Iv)  : ∀ q ∈ kX11_has, xm_okb Iv RX11 cX11_has false 1 lX11_has q.2 q.1 := by
  intro q hq
  simp only [List.mem_cons, List.not_mem_nil, or_false] at hq
  rcases hq with rfl | rfl | rfl
  · exact oX11_has_0 hI  
  · exact oX11_has_13 hI  
  · exact oX11_has_14 hI  
def S_X11_has : xS := fun as w Q _ => ∃ x k, as = [.int x, .int (nI k)] ∧ Q (some (.int (t_b (t_has x k)))) w
theorem body_X11_has : xm_Body 2 1 0 0 [] lX11_has kX11_has S_X11_has := by
  intro X avs w Q QX hX0 hS
  have hG := xm_go [] hX0
  have hX := xm_go [] hX0
  clear hX0
  obtain ⟨x, k, rfl, hQ⟩ := hS
  refine ⟨rfl, ?_⟩
  repeat' (first
    | ((with_reducible refine @And.intro (vp_in _ _) _ ?_ ?_); (· (first | with_reducible assumption | ((with_reducible refine t_vin ?_); decide) | ((with_reducible refine vp_in_nI ?_ ?_) <;> first | omega | decide) | (simp (disch := omega) only [xl_n, xl_m, nI_dec, nI_sb, nI_add, pk_mul]; (with_reducible refine vp_in_nI ?_ ?_) <;> first | omega | decide))); (conv => whnf))
    | (refine And.intro (by first | with_reducible assumption | exact (show tL _ = _ from rfl) | decide) ?_; (conv => whnf))
    | ((with_reducible refine @And.intro (_ = _) _ ?_ ?_); (· rfl); (conv => whnf))
    | ((with_reducible refine @And.intro (@LE.le Nat _ _ _) _ ?_ ?_); (· (first | exact Nat.zero_le _ | exact Nat.le_of_ble_eq_true rfl | omega)); (conv => whnf))
    | ((with_reducible refine @And.intro (@LT.lt Nat _ _ _) _ ?_ ?_); (· omega); (conv => whnf))
    | ((with_reducible refine @And.intro (∃ _, _ = _) _ ?_ ?_); (· exact ⟨_, rfl⟩); (conv => whnf))
    | ((with_reducible refine @And.intro (_ ∨ _) _ ?_ ?_); (· (first | exact Or.inl rfl | exact Or.inr rfl | exact t_b01 _ | assumption)); (conv => whnf))
    | ((with_reducible refine @And.intro (¬ (_ = _)) _ ?_ ?_); (· first | assumption | (with_reducible assumption)); (conv => whnf))
    | (refine hX _ _ _ _ _ _ ?_; (conv => whnf); fail_if_success show False)
    | (rw [t_si]; (conv => whnf))
    | (refine ⟨_, rfl, ?_⟩; (conv => whnf))
    | (refine ⟨_, _, rfl, ?_⟩; (conv => whnf))
    | (refine ⟨_, _, _, rfl, ?_⟩; (conv => whnf))
    | (refine ⟨_, _, _, _, rfl, ?_⟩; (conv => whnf))
    | (refine And.intro (fun c => ?_) (fun c => ?_) <;> (first | (exact absurd c (by decide +kernel)) | (conv => whnf)))
    | fail)
  all_goals refine t_q hQ ?_
  all_goals clear hX hG
  all_goals simp (disch := omega) only [xl_n, xl_m, nI_dec, nI_sb, xl_0, xl_1, tW_i, t_bn0, t_bn1, Classical.not_not, t_lt, nI_add, nI_1, pk_mul, nI_clamp, t_si, nI_eq, nI_leI, nM_ne, nM_ne] at *
  · simp [*, t_has, t_bf]
  · simp [*, t_has, t_bt]
theorem ct_X11_has {Iv : xI} (hI : xm_good Iv) : xm_Ct Iv yX11_has (ws_ yX11_has cX11_has 2 (some .boolean)) 1 0 0 S_X11_has := xm_enter (rt := 1) (init := false) (by decide +kernel) rfl (fun h => by cases h) (Or.inr (Or.inl ⟨rfl, Or.inl rfl⟩)) (oX11_has hI) body_X11_has
theorem cv_X11_has {Iv : xI} {own : String} {cc : ByteArray} {fr pc idx : Nat} (hI : xm_good Iv) (hdg : decode cc pc = .ok (.invokestatic idx, 3)) (hl : xm_ml own idx yX11_has) (hfr : 1 < fr) : xm_CallOK Iv own cc fr pc (pc + 3) 2 0 0 S_X11_has := xm_callS hI (ct_X11_has hI) hdg hl q1946 q145 q1947 (by decide +kernel) hfr (by decide)
abbrev bX11_in_0 : List xE := [(.iload_n 0, 1, 0, 0, 0), (.iload_n 1, 2, 0, 0, 0), (.if_icmp .lt 12, 5, 0, 14, 0), (.iload_n 0, 6, 0, 0, 0), (.iload_n 2, 7, 0, 0, 0), (.if_icmp .gt 7, 10, 0, 14, 0), (.iconst 1, 11, 0, 0, 0), (.goto 4, 14, 0, 15, 0)]
abbrev bX11_in_14 : List xE := [(.iconst 0, 15, 0, 0, 0)]
abbrev bX11_in_15 : List xE := [(.ireturn, 16, 0, 0, 0)]
abbrev kX11_in : List (Nat × List xE) := [(0, bX11_in_0), (14, bX11_in_14), (15, bX11_in_15)]
abbrev lX11_in : List (Nat × Nat × Nat × xS) := []
theorem oX11_in_0 {Iv : xI} (hI : xm_good Iv)  : xm_okb Iv RX11 cX11_in false 1 lX11_in bX11_in_0 0 := xo_0 dX11_in_0 rfl trivial (xo_0 dX11_in_1 rfl trivial (xo_0 dX11_in_2 rfl rfl (xo_0 dX11_in_5 rfl trivial (xo_0 dX11_in_6 rfl trivial (xo_0 dX11_in_7 rfl rfl (xo_0 dX11_in_10 rfl trivial (xo_0 dX11_in_11 rfl rfl (xo_n))))))))
theorem oX11_in_14 {Iv : xI} (hI : xm_good Iv)  : xm_okb Iv RX11 cX11_in false 1 lX11_in bX11_in_14 14 := xo_0 dX11_in_14 rfl trivial (xo_n)
theorem oX11_in_15 {Iv : xI} (hI : xm_good Iv)  : xm_okb Iv RX11 cX11_in false 1 lX11_in bX11_in_15 15 := xo_0 dX11_in_15 rfl trivial (xo_n)
theorem oX11_in {Iv : xI} (hI : xm_good Iv)  : ∀ q ∈ kX11_in, xm_okb Iv RX11 cX11_in false 1 lX11_in q.2 q.1 := by
  intro q hq
  simp only [List.mem_cons, List.not_mem_nil, or_false] at hq
  rcases hq with rfl | rfl | rfl
  · exact oX11_in_0 hI  
  · exact oX11_in_14 hI  
  · exact oX11_in_15 hI  
def S_X11_in : xS := fun as w Q _ => ∃ v lo hi, as = [.int v, .int lo, .int hi] ∧ Q (some (.int (t_b (t_in v lo hi)))) w
theorem body_X11_in : xm_Body 3 1 0 0 [] lX11_in kX11_in S_X11_in := by
  intro X avs w Q QX hX0 hS
  have hG := xm_go [] hX0
  have hX := xm_go [] hX0
  clear hX0
  obtain ⟨v, lo, hi, rfl, hQ⟩ := hS
  refine ⟨rfl, ?_⟩
  repeat' (first
    | ((with_reducible refine @And.intro (vp_in _ _) _ ?_ ?_); (· (first | with_reducible assumption | ((with_reducible refine t_vin ?_); decide) | ((with_reducible refine vp_in_nI ?_ ?_) <;> first | omega | decide) | (simp (disch := omega) only [xl_n, xl_m, nI_dec, nI_sb, nI_add, pk_mul]; (with_reducible refine vp_in_nI ?_ ?_) <;> first | omega | decide))); (conv => whnf))
    | (refine And.intro (by first | with_reducible assumption | exact (show tL _ = _ from rfl) | decide) ?_; (conv => whnf))
    | ((with_reducible refine @And.intro (_ = _) _ ?_ ?_); (· rfl); (conv => whnf))
    | ((with_reducible refine @And.intro (@LE.le Nat _ _ _) _ ?_ ?_); (· (first | exact Nat.zero_le _ | exact Nat.le_of_ble_eq_true rfl | omega)); (conv => whnf))
    | ((with_reducible refine @And.intro (@LT.lt Nat _ _ _) _ ?_ ?_); (· omega); (conv => whnf))
    | ((with_reducible refine @And.intro (∃ _, _ = _) _ ?_ ?_); (· exact ⟨_, rfl⟩); (conv => whnf))
    | ((with_reducible refine @And.intro (_ ∨ _) _ ?_ ?_); (· (first | exact Or.inl rfl | exact Or.inr rfl | exact t_b01 _ | assumption)); (conv => whnf))
    | ((with_reducible refine @And.intro (¬ (_ = _)) _ ?_ ?_); (· first | assumption | (with_reducible assumption)); (conv => whnf))
    | (refine hX _ _ _ _ _ _ ?_; (conv => whnf); fail_if_success show False)
    | (rw [t_si]; (conv => whnf))
    | (refine ⟨_, rfl, ?_⟩; (conv => whnf))
    | (refine ⟨_, _, rfl, ?_⟩; (conv => whnf))
    | (refine ⟨_, _, _, rfl, ?_⟩; (conv => whnf))
    | (refine ⟨_, _, _, _, rfl, ?_⟩; (conv => whnf))
    | (refine And.intro (fun c => ?_) (fun c => ?_) <;> (first | (exact absurd c (by decide +kernel)) | (conv => whnf)))
    | fail)
  all_goals refine t_q hQ ?_
  all_goals clear hX hG
  all_goals simp (disch := omega) only [xl_n, xl_m, nI_dec, nI_sb, xl_0, xl_1, tW_i, t_bn0, t_bn1, Classical.not_not, t_lt, nI_add, nI_1, pk_mul, nI_clamp, t_si, nI_eq, nI_leI, nM_ne, nM_ne] at *
  · simp [*, t_bf, t_in]
  · simp [*, t_bf, t_in]
  · simp [*, t_bt, t_in]
theorem ct_X11_in {Iv : xI} (hI : xm_good Iv) : xm_Ct Iv yX11_in (ws_ yX11_in cX11_in 3 (some .boolean)) 1 0 0 S_X11_in := xm_enter (rt := 1) (init := false) (by decide +kernel) rfl (fun h => by cases h) (Or.inr (Or.inl ⟨rfl, Or.inl rfl⟩)) (oX11_in hI) body_X11_in
theorem cv_X11_in {Iv : xI} {own : String} {cc : ByteArray} {fr pc idx : Nat} (hI : xm_good Iv) (hdg : decode cc pc = .ok (.invokestatic idx, 3)) (hl : xm_ml own idx yX11_in) (hfr : 1 < fr) : xm_CallOK Iv own cc fr pc (pc + 3) 3 0 0 S_X11_in := xm_callS hI (ct_X11_in hI) hdg hl q1943 q145 q1944 (by decide +kernel) hfr (by decide)
abbrev bX11_less_0 : List xE := [(.iload_n 0, 1, 0, 0, 0), (.iload_n 1, 2, 0, 0, 0), (.if_icmp .ge 7, 5, 0, 9, 0), (.iload_n 0, 6, 0, 0, 0), (.goto 4, 9, 0, 10, 0)]
abbrev bX11_less_9 : List xE := [(.iload_n 1, 10, 0, 0, 0)]
abbrev bX11_less_10 : List xE := [(.ireturn, 11, 0, 0, 0)]
abbrev kX11_less : List (Nat × List xE) := [(0, bX11_less_0), (9, bX11_less_9), (10, bX11_less_10)]
abbrev lX11_less : List (Nat × Nat × Nat × xS) := []
theorem oX11_less_0 {Iv : xI} (hI : xm_good Iv)  : xm_okb Iv RX11 cX11_less false 1 lX11_less bX11_less_0 0 := xo_0 dX11_less_0 rfl trivial (xo_0 dX11_less_1 rfl trivial (xo_0 dX11_less_2 rfl rfl (xo_0 dX11_less_5 rfl trivial (xo_0 dX11_less_6 rfl rfl (xo_n)))))
theorem oX11_less_9 {Iv : xI} (hI : xm_good Iv)  : xm_okb Iv RX11 cX11_less false 1 lX11_less bX11_less_9 9 := xo_0 dX11_less_9 rfl trivial (xo_n)
theorem oX11_less_10 {Iv : xI} (hI : xm_good Iv)  : xm_okb Iv RX11 cX11_less false 1 lX11_less bX11_less_10 10 := xo_0 dX11_less_10 rfl trivial (xo_n)
theorem oX11_less {Iv : xI} (hI : xm_good Iv)  : ∀ q ∈ kX11_less, xm_okb Iv RX11 cX11_less false 1 lX11_less q.2 q.1 := by
  intro q hq
  simp only [List.mem_cons, List.not_mem_nil, or_false] at hq
  rcases hq with rfl | rfl | rfl
  · exact oX11_less_0 hI  
  · exact oX11_less_9 hI  
  · exact oX11_less_10 hI  
def S_X11_less : xS := fun as w Q _ => ∃ a b, as = [.int a, .int b] ∧ Q (some (.int (t_less a b))) w
theorem body_X11_less : xm_Body 2 0 0 0 [] lX11_less kX11_less S_X11_less := by
  intro X avs w Q QX hX0 hS
  have hG := xm_go [] hX0
  have hX := xm_go [] hX0
  clear hX0
  obtain ⟨a, b, rfl, hQ⟩ := hS
  refine ⟨rfl, ?_⟩
  repeat' (first
    | ((with_reducible refine @And.intro (vp_in _ _) _ ?_ ?_); (· (first | with_reducible assumption | ((with_reducible refine t_vin ?_); decide) | ((with_reducible refine vp_in_nI ?_ ?_) <;> first | omega | decide) | (simp (disch := omega) only [xl_n, xl_m, nI_dec, nI_sb, nI_add, pk_mul]; (with_reducible refine vp_in_nI ?_ ?_) <;> first | omega | decide))); (conv => whnf))
    | (refine And.intro (by first | with_reducible assumption | exact (show tL _ = _ from rfl) | decide) ?_; (conv => whnf))
    | ((with_reducible refine @And.intro (_ = _) _ ?_ ?_); (· rfl); (conv => whnf))
    | ((with_reducible refine @And.intro (@LE.le Nat _ _ _) _ ?_ ?_); (· (first | exact Nat.zero_le _ | exact Nat.le_of_ble_eq_true rfl | omega)); (conv => whnf))
    | ((with_reducible refine @And.intro (@LT.lt Nat _ _ _) _ ?_ ?_); (· omega); (conv => whnf))
    | ((with_reducible refine @And.intro (∃ _, _ = _) _ ?_ ?_); (· exact ⟨_, rfl⟩); (conv => whnf))
    | ((with_reducible refine @And.intro (_ ∨ _) _ ?_ ?_); (· (first | exact Or.inl rfl | exact Or.inr rfl | exact t_b01 _ | assumption)); (conv => whnf))
    | ((with_reducible refine @And.intro (¬ (_ = _)) _ ?_ ?_); (· first | assumption | (with_reducible assumption)); (conv => whnf))
    | (refine hX _ _ _ _ _ _ ?_; (conv => whnf); fail_if_success show False)
    | (rw [t_si]; (conv => whnf))
    | (refine ⟨_, rfl, ?_⟩; (conv => whnf))
    | (refine ⟨_, _, rfl, ?_⟩; (conv => whnf))
    | (refine ⟨_, _, _, rfl, ?_⟩; (conv => whnf))
    | (refine ⟨_, _, _, _, rfl, ?_⟩; (conv => whnf))
    | (refine And.intro (fun c => ?_) (fun c => ?_) <;> (first | (exact absurd c (by decide +kernel)) | (conv => whnf)))
    | fail)
  all_goals refine t_q hQ ?_
  all_goals clear hX hG
  all_goals simp (disch := omega) only [xl_n, xl_m, nI_dec, nI_sb, xl_0, xl_1, tW_i, t_bn0, t_bn1, Classical.not_not, t_lt, nI_add, nI_1, pk_mul, nI_clamp, t_si, nI_eq, nI_leI, nM_ne, nM_ne] at *
  · simp [*, t_less]
  · simp [*, t_less]
theorem ct_X11_less {Iv : xI} (hI : xm_good Iv) : xm_Ct Iv yX11_less (ws_ yX11_less cX11_less 2 (some .int)) 1 0 0 S_X11_less := xm_enter (rt := 0) (init := false) (by decide +kernel) rfl (fun h => by cases h) (Or.inl ⟨rfl, rfl⟩) (oX11_less hI) body_X11_less
theorem cv_X11_less {Iv : xI} {own : String} {cc : ByteArray} {fr pc idx : Nat} (hI : xm_good Iv) (hdg : decode cc pc = .ok (.invokestatic idx, 3)) (hl : xm_ml own idx yX11_less) (hfr : 1 < fr) : xm_CallOK Iv own cc fr pc (pc + 3) 2 0 0 S_X11_less := xm_callS hI (ct_X11_less hI) hdg hl q2230 q145 q2231 (by decide +kernel) hfr (by decide)
abbrev bX11_more_0 : List xE := [(.iload_n 0, 1, 0, 0, 0), (.iload_n 1, 2, 0, 0, 0), (.if_icmp .le 7, 5, 0, 9, 0), (.iload_n 0, 6, 0, 0, 0), (.goto 4, 9, 0, 10, 0)]
abbrev bX11_more_9 : List xE := [(.iload_n 1, 10, 0, 0, 0)]
abbrev bX11_more_10 : List xE := [(.ireturn, 11, 0, 0, 0)]
abbrev kX11_more : List (Nat × List xE) := [(0, bX11_more_0), (9, bX11_more_9), (10, bX11_more_10)]
abbrev lX11_more : List (Nat × Nat × Nat × xS) := []
theorem oX11_more_0 {Iv : xI} (hI : xm_good Iv)  : xm_okb Iv RX11 cX11_more false 1 lX11_more bX11_more_0 0 := xo_0 dX11_more_0 rfl trivial (xo_0 dX11_more_1 rfl trivial (xo_0 dX11_more_2 rfl rfl (xo_0 dX11_more_5 rfl trivial (xo_0 dX11_more_6 rfl rfl (xo_n)))))
theorem oX11_more_9 {Iv : xI} (hI : xm_good Iv)  : xm_okb Iv RX11 cX11_more false 1 lX11_more bX11_more_9 9 := xo_0 dX11_more_9 rfl trivial (xo_n)
theorem oX11_more_10 {Iv : xI} (hI : xm_good Iv)  : xm_okb Iv RX11 cX11_more false 1 lX11_more bX11_more_10 10 := xo_0 dX11_more_10 rfl trivial (xo_n)
theorem oX11_more {Iv : xI} (hI : xm_good Iv)  : ∀ q ∈ kX11_more, xm_okb Iv RX11 cX11_more false 1 lX11_more q.2 q.1 := by
  intro q hq
  simp only [List.mem_cons, List.not_mem_nil, or_false] at hq
  rcases hq with rfl | rfl | rfl
  · exact oX11_more_0 hI  
  · exact oX11_more_9 hI  
  · exact oX11_more_10 hI  
def S_X11_more : xS := fun as w Q _ => ∃ a b, as = [.int a, .int b] ∧ Q (some (.int (t_more a b))) w
theorem body_X11_more : xm_Body 2 0 0 0 [] lX11_more kX11_more S_X11_more := by
  intro X avs w Q QX hX0 hS
  have hG := xm_go [] hX0
  have hX := xm_go [] hX0
  clear hX0
  obtain ⟨a, b, rfl, hQ⟩ := hS
  refine ⟨rfl, ?_⟩
  repeat' (first
    | ((with_reducible refine @And.intro (vp_in _ _) _ ?_ ?_); (· (first | with_reducible assumption | ((with_reducible refine t_vin ?_); decide) | ((with_reducible refine vp_in_nI ?_ ?_) <;> first | omega | decide) | (simp (disch := omega) only [xl_n, xl_m, nI_dec, nI_sb, nI_add, pk_mul]; (with_reducible refine vp_in_nI ?_ ?_) <;> first | omega | decide))); (conv => whnf))
    | (refine And.intro (by first | with_reducible assumption | exact (show tL _ = _ from rfl) | decide) ?_; (conv => whnf))
    | ((with_reducible refine @And.intro (_ = _) _ ?_ ?_); (· rfl); (conv => whnf))
    | ((with_reducible refine @And.intro (@LE.le Nat _ _ _) _ ?_ ?_); (· (first | exact Nat.zero_le _ | exact Nat.le_of_ble_eq_true rfl | omega)); (conv => whnf))
    | ((with_reducible refine @And.intro (@LT.lt Nat _ _ _) _ ?_ ?_); (· omega); (conv => whnf))
    | ((with_reducible refine @And.intro (∃ _, _ = _) _ ?_ ?_); (· exact ⟨_, rfl⟩); (conv => whnf))
    | ((with_reducible refine @And.intro (_ ∨ _) _ ?_ ?_); (· (first | exact Or.inl rfl | exact Or.inr rfl | exact t_b01 _ | assumption)); (conv => whnf))
    | ((with_reducible refine @And.intro (¬ (_ = _)) _ ?_ ?_); (· first | assumption | (with_reducible assumption)); (conv => whnf))
    | (refine hX _ _ _ _ _ _ ?_; (conv => whnf); fail_if_success show False)
    | (rw [t_si]; (conv => whnf))
    | (refine ⟨_, rfl, ?_⟩; (conv => whnf))
    | (refine ⟨_, _, rfl, ?_⟩; (conv => whnf))
    | (refine ⟨_, _, _, rfl, ?_⟩; (conv => whnf))
    | (refine ⟨_, _, _, _, rfl, ?_⟩; (conv => whnf))
    | (refine And.intro (fun c => ?_) (fun c => ?_) <;> (first | (exact absurd c (by decide +kernel)) | (conv => whnf)))
    | fail)
  all_goals refine t_q hQ ?_
  all_goals clear hX hG
  all_goals simp (disch := omega) only [xl_n, xl_m, nI_dec, nI_sb, xl_0, xl_1, tW_i, t_bn0, t_bn1, Classical.not_not, t_lt, nI_add, nI_1, pk_mul, nI_clamp, t_si, nI_eq, nI_leI, nM_ne, nM_ne] at *
  · simp [*, t_more]
  · simp [*, t_more]
theorem ct_X11_more {Iv : xI} (hI : xm_good Iv) : xm_Ct Iv yX11_more (ws_ yX11_more cX11_more 2 (some .int)) 1 0 0 S_X11_more := xm_enter (rt := 0) (init := false) (by decide +kernel) rfl (fun h => by cases h) (Or.inl ⟨rfl, rfl⟩) (oX11_more hI) body_X11_more
theorem cv_X11_more {Iv : xI} {own : String} {cc : ByteArray} {fr pc idx : Nat} (hI : xm_good Iv) (hdg : decode cc pc = .ok (.invokestatic idx, 3)) (hl : xm_ml own idx yX11_more) (hfr : 1 < fr) : xm_CallOK Iv own cc fr pc (pc + 3) 2 0 0 S_X11_more := xm_callS hI (ct_X11_more hI) hdg hl q2313 q145 q2314 (by decide +kernel) hfr (by decide)
abbrev bX11_ones_0 : List xE := [(.iconst 0, 1, 0, 0, 0), (.istore_n 1, 2, 0, 0, 0), (.iconst 0, 3, 0, 0, 0), (.istore_n 2, 4, 0, 0, 0)]
abbrev bX11_ones_4 : List xE := [(.iload_n 2, 5, 0, 0, 0), (.bipush 9, 7, 0, 0, 0), (.if_icmp .ge 17, 10, 0, 24, 0), (.iload_n 1, 11, 0, 0, 0), (.iload_n 0, 12, 0, 0, 0), (.iload_n 2, 13, 0, 0, 0), (.ishr, 14, 0, 0, 0), (.iconst 1, 15, 0, 0, 0), (.iand, 16, 0, 0, 0), (.iadd, 17, 0, 0, 0), (.istore_n 1, 18, 0, 0, 0), (.iinc 2 1, 21, 0, 0, 0), (.goto (-17), 24, 0, 4, 0)]
abbrev bX11_ones_24 : List xE := [(.iload_n 1, 25, 0, 0, 0), (.ireturn, 26, 0, 0, 0)]
abbrev kX11_ones : List (Nat × List xE) := [(0, bX11_ones_0), (4, bX11_ones_4), (24, bX11_ones_24)]
abbrev lX11_ones : List (Nat × Nat × Nat × xS) := []
theorem oX11_ones_0 {Iv : xI} (hI : xm_good Iv)  : xm_okb Iv RX11 cX11_ones false 1 lX11_ones bX11_ones_0 0 := xo_0 dX11_ones_0 rfl trivial (xo_0 dX11_ones_1 rfl trivial (xo_0 dX11_ones_2 rfl trivial (xo_0 dX11_ones_3 rfl trivial (xo_n))))
theorem oX11_ones_4 {Iv : xI} (hI : xm_good Iv)  : xm_okb Iv RX11 cX11_ones false 1 lX11_ones bX11_ones_4 4 := xo_0 dX11_ones_4 rfl trivial (xo_0 dX11_ones_5 rfl (xo_bipush (by decide +kernel)) (xo_0 dX11_ones_7 rfl rfl (xo_0 dX11_ones_10 rfl trivial (xo_0 dX11_ones_11 rfl trivial (xo_0 dX11_ones_12 rfl trivial (xo_0 dX11_ones_13 rfl trivial (xo_0 dX11_ones_14 rfl trivial (xo_0 dX11_ones_15 rfl trivial (xo_0 dX11_ones_16 rfl trivial (xo_0 dX11_ones_17 rfl trivial (xo_0 dX11_ones_18 rfl trivial (xo_0 dX11_ones_21 rfl rfl (xo_n)))))))))))))
theorem oX11_ones_24 {Iv : xI} (hI : xm_good Iv)  : xm_okb Iv RX11 cX11_ones false 1 lX11_ones bX11_ones_24 24 := xo_0 dX11_ones_24 rfl trivial (xo_0 dX11_ones_25 rfl trivial (xo_n))
theorem oX11_ones {Iv : xI} (hI : xm_good Iv)  : ∀ q ∈ kX11_ones, xm_okb Iv RX11 cX11_ones false 1 lX11_ones q.2 q.1 := by
  intro q hq
  simp only [List.mem_cons, List.not_mem_nil, or_false] at hq
  rcases hq with rfl | rfl | rfl
  · exact oX11_ones_0 hI  
  · exact oX11_ones_4 hI  
  · exact oX11_ones_24 hI  
def S_X11_ones : xS := fun as w Q _ => ∃ x, as = [.int x] ∧ Q (some (.int (t_ones x))) w
theorem body_X11_ones : xm_Body 3 0 0 0 [] lX11_ones kX11_ones S_X11_ones := by
  intro X avs w Q QX hX0 hS
  have hG := xm_go [] hX0
  have hX := xm_go [4] hX0
  clear hX0
  obtain ⟨x, rfl, hQ⟩ := hS
  have loop : ∀ k, k ≤ 9 → X 4 [some (.int x), some (.int (t_sum k (fun k => (x >>> (nI k &&& 31)) &&& nI 1))), some (.int (nI k))] [] w 0 0 := by
    refine t_for fun k h1 ih => ?_
    refine hG _ _ _ _ _ _ ?_
    (conv => whnf)
    refine And.intro (fun c => ?_) (fun c => ?_) <;> (conv => whnf)
    · repeat' (first
        | ((with_reducible refine @And.intro (vp_in _ _) _ ?_ ?_); (· (first | with_reducible assumption | ((with_reducible refine t_vin ?_); decide) | ((with_reducible refine vp_in_nI ?_ ?_) <;> first | omega | decide) | (simp (disch := omega) only [xl_n, xl_m, nI_dec, nI_sb, nI_add, pk_mul]; (with_reducible refine vp_in_nI ?_ ?_) <;> first | omega | decide))); (conv => whnf))
        | (refine And.intro (by first | with_reducible assumption | exact (show tL _ = _ from rfl) | decide) ?_; (conv => whnf))
        | ((with_reducible refine @And.intro (_ = _) _ ?_ ?_); (· rfl); (conv => whnf))
        | ((with_reducible refine @And.intro (@LE.le Nat _ _ _) _ ?_ ?_); (· (first | exact Nat.zero_le _ | exact Nat.le_of_ble_eq_true rfl | omega)); (conv => whnf))
        | ((with_reducible refine @And.intro (@LT.lt Nat _ _ _) _ ?_ ?_); (· omega); (conv => whnf))
        | ((with_reducible refine @And.intro (∃ _, _ = _) _ ?_ ?_); (· exact ⟨_, rfl⟩); (conv => whnf))
        | ((with_reducible refine @And.intro (_ ∨ _) _ ?_ ?_); (· (first | exact Or.inl rfl | exact Or.inr rfl | exact t_b01 _ | assumption)); (conv => whnf))
        | ((with_reducible refine @And.intro (¬ (_ = _)) _ ?_ ?_); (· first | assumption | (with_reducible assumption)); (conv => whnf))
        | (refine hX _ _ _ _ _ _ ?_; (conv => whnf); fail_if_success show False)
        | (rw [t_si]; (conv => whnf))
        | (refine ⟨_, rfl, ?_⟩; (conv => whnf))
        | (refine ⟨_, _, rfl, ?_⟩; (conv => whnf))
        | (refine ⟨_, _, _, rfl, ?_⟩; (conv => whnf))
        | (refine ⟨_, _, _, _, rfl, ?_⟩; (conv => whnf))
        | fail)
      have : k = 9 := Nat.le_antisymm h1 (t_kge (n := 9) rfl c (by omega) (by omega))
      subst this
      exact hQ
    · have hk : k < 9 := t_klt (n := 9) rfl c (by omega)
      repeat' (first
        | ((with_reducible refine @And.intro (vp_in _ _) _ ?_ ?_); (· (first | with_reducible assumption | ((with_reducible refine t_vin ?_); decide) | ((with_reducible refine vp_in_nI ?_ ?_) <;> first | omega | decide) | (simp (disch := omega) only [xl_n, xl_m, nI_dec, nI_sb, nI_add, pk_mul]; (with_reducible refine vp_in_nI ?_ ?_) <;> first | omega | decide))); (conv => whnf))
        | (refine And.intro (by first | with_reducible assumption | exact (show tL _ = _ from rfl) | decide) ?_; (conv => whnf))
        | ((with_reducible refine @And.intro (_ = _) _ ?_ ?_); (· rfl); (conv => whnf))
        | ((with_reducible refine @And.intro (@LE.le Nat _ _ _) _ ?_ ?_); (· (first | exact Nat.zero_le _ | exact Nat.le_of_ble_eq_true rfl | omega)); (conv => whnf))
        | ((with_reducible refine @And.intro (@LT.lt Nat _ _ _) _ ?_ ?_); (· omega); (conv => whnf))
        | ((with_reducible refine @And.intro (∃ _, _ = _) _ ?_ ?_); (· exact ⟨_, rfl⟩); (conv => whnf))
        | ((with_reducible refine @And.intro (_ ∨ _) _ ?_ ?_); (· (first | exact Or.inl rfl | exact Or.inr rfl | exact t_b01 _ | assumption)); (conv => whnf))
        | ((with_reducible refine @And.intro (¬ (_ = _)) _ ?_ ?_); (· first | assumption | (with_reducible assumption)); (conv => whnf))
        | (refine hX _ _ _ _ _ _ ?_; (conv => whnf); fail_if_success show False)
        | (rw [t_si]; (conv => whnf))
        | (refine ⟨_, rfl, ?_⟩; (conv => whnf))
        | (refine ⟨_, _, rfl, ?_⟩; (conv => whnf))
        | (refine ⟨_, _, _, rfl, ?_⟩; (conv => whnf))
        | (refine ⟨_, _, _, _, rfl, ?_⟩; (conv => whnf))
        | (refine And.intro (fun c => ?_) (fun c => ?_) <;> (first | (exact absurd c (by decide +kernel)) | (conv => whnf)))
        | fail)
      all_goals simp (disch := omega) only [xl_n, xl_m, nI_dec, nI_sb, xl_0, xl_1, tW_i, t_bn0, t_bn1, Classical.not_not, t_lt, nI_add, nI_1, pk_mul, nI_clamp, t_si, nI_eq, nI_leI, nM_ne, nM_ne, xm_set, xm_lv0, xm_psh] at *
      have := ih (k + 1) (by omega) (by omega)
      simpa [t_sum, t_fold] using this
  refine ⟨rfl, ?_⟩
  repeat' (first
    | ((with_reducible refine @And.intro (vp_in _ _) _ ?_ ?_); (· (first | with_reducible assumption | ((with_reducible refine t_vin ?_); decide) | ((with_reducible refine vp_in_nI ?_ ?_) <;> first | omega | decide) | (simp (disch := omega) only [xl_n, xl_m, nI_dec, nI_sb, nI_add, pk_mul]; (with_reducible refine vp_in_nI ?_ ?_) <;> first | omega | decide))); (conv => whnf))
    | (refine And.intro (by first | with_reducible assumption | exact (show tL _ = _ from rfl) | decide) ?_; (conv => whnf))
    | ((with_reducible refine @And.intro (_ = _) _ ?_ ?_); (· rfl); (conv => whnf))
    | ((with_reducible refine @And.intro (@LE.le Nat _ _ _) _ ?_ ?_); (· (first | exact Nat.zero_le _ | exact Nat.le_of_ble_eq_true rfl | omega)); (conv => whnf))
    | ((with_reducible refine @And.intro (@LT.lt Nat _ _ _) _ ?_ ?_); (· omega); (conv => whnf))
    | ((with_reducible refine @And.intro (∃ _, _ = _) _ ?_ ?_); (· exact ⟨_, rfl⟩); (conv => whnf))
    | ((with_reducible refine @And.intro (_ ∨ _) _ ?_ ?_); (· (first | exact Or.inl rfl | exact Or.inr rfl | exact t_b01 _ | assumption)); (conv => whnf))
    | ((with_reducible refine @And.intro (¬ (_ = _)) _ ?_ ?_); (· first | assumption | (with_reducible assumption)); (conv => whnf))
    | (refine hX _ _ _ _ _ _ ?_; (conv => whnf); fail_if_success show False)
    | (rw [t_si]; (conv => whnf))
    | (refine ⟨_, rfl, ?_⟩; (conv => whnf))
    | (refine ⟨_, _, rfl, ?_⟩; (conv => whnf))
    | (refine ⟨_, _, _, rfl, ?_⟩; (conv => whnf))
    | (refine ⟨_, _, _, _, rfl, ?_⟩; (conv => whnf))
    | (refine And.intro (fun c => ?_) (fun c => ?_) <;> (first | (exact absurd c (by decide +kernel)) | (conv => whnf)))
    | fail)
  exact loop 0 (Nat.zero_le _)
theorem ct_X11_ones {Iv : xI} (hI : xm_good Iv) : xm_Ct Iv yX11_ones (ws_ yX11_ones cX11_ones 3 (some .int)) 1 0 0 S_X11_ones := xm_enter (rt := 0) (init := false) (by decide +kernel) rfl (fun h => by cases h) (Or.inl ⟨rfl, rfl⟩) (oX11_ones hI) body_X11_ones
theorem cv_X11_ones {Iv : xI} {own : String} {cc : ByteArray} {fr pc idx : Nat} (hI : xm_good Iv) (hdg : decode cc pc = .ok (.invokestatic idx, 3)) (hl : xm_ml own idx yX11_ones) (hfr : 1 < fr) : xm_CallOK Iv own cc fr pc (pc + 3) 1 0 0 S_X11_ones := xm_callS hI (ct_X11_ones hI) hdg hl q2219 q145 q2220 (by decide +kernel) hfr (by decide)
abbrev bX11_isDigit_0 : List xE := [(.iload_n 0, 1, 0, 0, 0), (.bipush 48, 3, 0, 0, 0), (.if_icmp .lt 13, 6, 0, 16, 0), (.iload_n 0, 7, 0, 0, 0), (.bipush 57, 9, 0, 0, 0), (.if_icmp .gt 7, 12, 0, 16, 0), (.iconst 1, 13, 0, 0, 0), (.goto 4, 16, 0, 17, 0)]
abbrev bX11_isDigit_16 : List xE := [(.iconst 0, 17, 0, 0, 0)]
abbrev bX11_isDigit_17 : List xE := [(.ireturn, 18, 0, 0, 0)]
abbrev kX11_isDigit : List (Nat × List xE) := [(0, bX11_isDigit_0), (16, bX11_isDigit_16), (17, bX11_isDigit_17)]
abbrev lX11_isDigit : List (Nat × Nat × Nat × xS) := []
theorem oX11_isDigit_0 {Iv : xI} (hI : xm_good Iv)  : xm_okb Iv RX11 cX11_isDigit false 1 lX11_isDigit bX11_isDigit_0 0 := xo_0 dX11_isDigit_0 rfl trivial (xo_0 dX11_isDigit_1 rfl (xo_bipush (by decide +kernel)) (xo_0 dX11_isDigit_3 rfl rfl (xo_0 dX11_isDigit_6 rfl trivial (xo_0 dX11_isDigit_7 rfl (xo_bipush (by decide +kernel)) (xo_0 dX11_isDigit_9 rfl rfl (xo_0 dX11_isDigit_12 rfl trivial (xo_0 dX11_isDigit_13 rfl rfl (xo_n))))))))
theorem oX11_isDigit_16 {Iv : xI} (hI : xm_good Iv)  : xm_okb Iv RX11 cX11_isDigit false 1 lX11_isDigit bX11_isDigit_16 16 := xo_0 dX11_isDigit_16 rfl trivial (xo_n)
theorem oX11_isDigit_17 {Iv : xI} (hI : xm_good Iv)  : xm_okb Iv RX11 cX11_isDigit false 1 lX11_isDigit bX11_isDigit_17 17 := xo_0 dX11_isDigit_17 rfl trivial (xo_n)
theorem oX11_isDigit {Iv : xI} (hI : xm_good Iv)  : ∀ q ∈ kX11_isDigit, xm_okb Iv RX11 cX11_isDigit false 1 lX11_isDigit q.2 q.1 := by
  intro q hq
  simp only [List.mem_cons, List.not_mem_nil, or_false] at hq
  rcases hq with rfl | rfl | rfl
  · exact oX11_isDigit_0 hI  
  · exact oX11_isDigit_16 hI  
  · exact oX11_isDigit_17 hI  
def t_dig (c : Int32) : Bool := decide (nI 48 ≤ c) && decide (c ≤ nI 57)
def S_X11_isDigit : xS := fun as w Q _ => ∃ c, as = [.int c] ∧ Q (some (.int (t_b (t_dig c)))) w
theorem body_X11_isDigit : xm_Body 1 1 0 0 [] lX11_isDigit kX11_isDigit S_X11_isDigit := by
  intro X avs w Q QX hX0 hS
  have hG := xm_go [] hX0
  have hX := xm_go [] hX0
  clear hX0
  obtain ⟨c0, rfl, hQ⟩ := hS
  refine ⟨rfl, ?_⟩
  repeat' (first
    | ((with_reducible refine @And.intro (vp_in _ _) _ ?_ ?_); (· (first | with_reducible assumption | ((with_reducible refine t_vin ?_); decide) | ((with_reducible refine vp_in_nI ?_ ?_) <;> first | omega | decide) | (simp (disch := omega) only [xl_n, xl_m, nI_dec, nI_sb, nI_add, pk_mul]; (with_reducible refine vp_in_nI ?_ ?_) <;> first | omega | decide))); (conv => whnf))
    | (refine And.intro (by first | with_reducible assumption | exact (show tL _ = _ from rfl) | decide) ?_; (conv => whnf))
    | ((with_reducible refine @And.intro (_ = _) _ ?_ ?_); (· rfl); (conv => whnf))
    | ((with_reducible refine @And.intro (@LE.le Nat _ _ _) _ ?_ ?_); (· (first | exact Nat.zero_le _ | exact Nat.le_of_ble_eq_true rfl | omega)); (conv => whnf))
    | ((with_reducible refine @And.intro (@LT.lt Nat _ _ _) _ ?_ ?_); (· omega); (conv => whnf))
    | ((with_reducible refine @And.intro (∃ _, _ = _) _ ?_ ?_); (· exact ⟨_, rfl⟩); (conv => whnf))
    | ((with_reducible refine @And.intro (_ ∨ _) _ ?_ ?_); (· (first | exact Or.inl rfl | exact Or.inr rfl | exact t_b01 _ | assumption)); (conv => whnf))
    | ((with_reducible refine @And.intro (¬ (_ = _)) _ ?_ ?_); (· first | assumption | (with_reducible assumption)); (conv => whnf))
    | (refine hX _ _ _ _ _ _ ?_; (conv => whnf); fail_if_success show False)
    | (rw [t_si]; (conv => whnf))
    | (refine ⟨_, rfl, ?_⟩; (conv => whnf))
    | (refine ⟨_, _, rfl, ?_⟩; (conv => whnf))
    | (refine ⟨_, _, _, rfl, ?_⟩; (conv => whnf))
    | (refine ⟨_, _, _, _, rfl, ?_⟩; (conv => whnf))
    | (refine And.intro (fun c => ?_) (fun c => ?_) <;> (first | (exact absurd c (by decide +kernel)) | (conv => whnf)))
    | fail)
  all_goals refine t_q hQ ?_
  all_goals clear hX hG
  all_goals simp (disch := omega) only [xl_n, xl_m, nI_dec, nI_sb, xl_0, xl_1, tW_i, t_bn0, t_bn1, Classical.not_not, t_lt, nI_add, nI_1, pk_mul, nI_clamp, t_si, nI_eq, nI_leI, nM_ne, nM_ne] at *
  · simp [*, t_bf, t_dig]
  · simp [*, t_bf, t_dig]
  · simp [*, t_bt, t_dig]
theorem ct_X11_isDigit {Iv : xI} (hI : xm_good Iv) : xm_Ct Iv yX11_isDigit (ws_ yX11_isDigit cX11_isDigit 1 (some .boolean)) 1 0 0 S_X11_isDigit := xm_enter (rt := 1) (init := false) (by decide +kernel) rfl (fun h => by cases h) (Or.inr (Or.inl ⟨rfl, Or.inl rfl⟩)) (oX11_isDigit hI) body_X11_isDigit
theorem cv_X11_isDigit {Iv : xI} {own : String} {cc : ByteArray} {fr pc idx : Nat} (hI : xm_good Iv) (hdg : decode cc pc = .ok (.invokestatic idx, 3)) (hl : xm_ml own idx yX11_isDigit) (hfr : 1 < fr) : xm_CallOK Iv own cc fr pc (pc + 3) 1 0 0 S_X11_isDigit := xm_callS hI (ct_X11_isDigit hI) hdg hl q2195 q145 q2196 (by decide +kernel) hfr (by decide)
abbrev bX11_isSmall_0 : List xE := [(.iload_n 0, 1, 0, 0, 0), (.bipush 97, 3, 0, 0, 0), (.if_icmp .lt 13, 6, 0, 16, 0), (.iload_n 0, 7, 0, 0, 0), (.bipush 122, 9, 0, 0, 0), (.if_icmp .gt 7, 12, 0, 16, 0), (.iconst 1, 13, 0, 0, 0), (.goto 4, 16, 0, 17, 0)]
abbrev bX11_isSmall_16 : List xE := [(.iconst 0, 17, 0, 0, 0)]
abbrev bX11_isSmall_17 : List xE := [(.ireturn, 18, 0, 0, 0)]
abbrev kX11_isSmall : List (Nat × List xE) := [(0, bX11_isSmall_0), (16, bX11_isSmall_16), (17, bX11_isSmall_17)]
abbrev lX11_isSmall : List (Nat × Nat × Nat × xS) := []
theorem oX11_isSmall_0 {Iv : xI} (hI : xm_good Iv)  : xm_okb Iv RX11 cX11_isSmall false 1 lX11_isSmall bX11_isSmall_0 0 := xo_0 dX11_isSmall_0 rfl trivial (xo_0 dX11_isSmall_1 rfl (xo_bipush (by decide +kernel)) (xo_0 dX11_isSmall_3 rfl rfl (xo_0 dX11_isSmall_6 rfl trivial (xo_0 dX11_isSmall_7 rfl (xo_bipush (by decide +kernel)) (xo_0 dX11_isSmall_9 rfl rfl (xo_0 dX11_isSmall_12 rfl trivial (xo_0 dX11_isSmall_13 rfl rfl (xo_n))))))))
theorem oX11_isSmall_16 {Iv : xI} (hI : xm_good Iv)  : xm_okb Iv RX11 cX11_isSmall false 1 lX11_isSmall bX11_isSmall_16 16 := xo_0 dX11_isSmall_16 rfl trivial (xo_n)
theorem oX11_isSmall_17 {Iv : xI} (hI : xm_good Iv)  : xm_okb Iv RX11 cX11_isSmall false 1 lX11_isSmall bX11_isSmall_17 17 := xo_0 dX11_isSmall_17 rfl trivial (xo_n)
theorem oX11_isSmall {Iv : xI} (hI : xm_good Iv)  : ∀ q ∈ kX11_isSmall, xm_okb Iv RX11 cX11_isSmall false 1 lX11_isSmall q.2 q.1 := by
  intro q hq
  simp only [List.mem_cons, List.not_mem_nil, or_false] at hq
  rcases hq with rfl | rfl | rfl
  · exact oX11_isSmall_0 hI  
  · exact oX11_isSmall_16 hI  
  · exact oX11_isSmall_17 hI  
def t_let (c : Int32) : Bool := decide (nI 97 ≤ c) && decide (c ≤ nI 122)
def S_X11_isSmall : xS := fun as w Q _ => ∃ c, as = [.int c] ∧ Q (some (.int (t_b (t_let c)))) w
theorem body_X11_isSmall : xm_Body 1 1 0 0 [] lX11_isSmall kX11_isSmall S_X11_isSmall := by
  intro X avs w Q QX hX0 hS
  have hG := xm_go [] hX0
  have hX := xm_go [] hX0
  clear hX0
  obtain ⟨c0, rfl, hQ⟩ := hS
  refine ⟨rfl, ?_⟩
  repeat' (first
    | ((with_reducible refine @And.intro (vp_in _ _) _ ?_ ?_); (· (first | with_reducible assumption | ((with_reducible refine t_vin ?_); decide) | ((with_reducible refine vp_in_nI ?_ ?_) <;> first | omega | decide) | (simp (disch := omega) only [xl_n, xl_m, nI_dec, nI_sb, nI_add, pk_mul]; (with_reducible refine vp_in_nI ?_ ?_) <;> first | omega | decide))); (conv => whnf))
    | (refine And.intro (by first | with_reducible assumption | exact (show tL _ = _ from rfl) | decide) ?_; (conv => whnf))
    | ((with_reducible refine @And.intro (_ = _) _ ?_ ?_); (· rfl); (conv => whnf))
    | ((with_reducible refine @And.intro (@LE.le Nat _ _ _) _ ?_ ?_); (· (first | exact Nat.zero_le _ | exact Nat.le_of_ble_eq_true rfl | omega)); (conv => whnf))
    | ((with_reducible refine @And.intro (@LT.lt Nat _ _ _) _ ?_ ?_); (· omega); (conv => whnf))
    | ((with_reducible refine @And.intro (∃ _, _ = _) _ ?_ ?_); (· exact ⟨_, rfl⟩); (conv => whnf))
    | ((with_reducible refine @And.intro (_ ∨ _) _ ?_ ?_); (· (first | exact Or.inl rfl | exact Or.inr rfl | exact t_b01 _ | assumption)); (conv => whnf))
    | ((with_reducible refine @And.intro (¬ (_ = _)) _ ?_ ?_); (· first | assumption | (with_reducible assumption)); (conv => whnf))
    | (refine hX _ _ _ _ _ _ ?_; (conv => whnf); fail_if_success show False)
    | (rw [t_si]; (conv => whnf))
    | (refine ⟨_, rfl, ?_⟩; (conv => whnf))
    | (refine ⟨_, _, rfl, ?_⟩; (conv => whnf))
    | (refine ⟨_, _, _, rfl, ?_⟩; (conv => whnf))
    | (refine ⟨_, _, _, _, rfl, ?_⟩; (conv => whnf))
    | (refine And.intro (fun c => ?_) (fun c => ?_) <;> (first | (exact absurd c (by decide +kernel)) | (conv => whnf)))
    | fail)
  all_goals refine t_q hQ ?_
  all_goals clear hX hG
  all_goals simp (disch := omega) only [xl_n, xl_m, nI_dec, nI_sb, xl_0, xl_1, tW_i, t_bn0, t_bn1, Classical.not_not, t_lt, nI_add, nI_1, pk_mul, nI_clamp, t_si, nI_eq, nI_leI, nM_ne, nM_ne] at *
  · simp [*, t_bf, t_let]
  · simp [*, t_bf, t_let]
  · simp [*, t_bt, t_let]
theorem ct_X11_isSmall {Iv : xI} (hI : xm_good Iv) : xm_Ct Iv yX11_isSmall (ws_ yX11_isSmall cX11_isSmall 1 (some .boolean)) 1 0 0 S_X11_isSmall := xm_enter (rt := 1) (init := false) (by decide +kernel) rfl (fun h => by cases h) (Or.inr (Or.inl ⟨rfl, Or.inl rfl⟩)) (oX11_isSmall hI) body_X11_isSmall
theorem cv_X11_isSmall {Iv : xI} {own : String} {cc : ByteArray} {fr pc idx : Nat} (hI : xm_good Iv) (hdg : decode cc pc = .ok (.invokestatic idx, 3)) (hl : xm_ml own idx yX11_isSmall) (hfr : 1 < fr) : xm_CallOK Iv own cc fr pc (pc + 3) 1 0 0 S_X11_isSmall := xm_callS hI (ct_X11_isSmall hI) hdg hl q2170 q145 q2171 (by decide +kernel) hfr (by decide)
abbrev bX11_isHand_0 : List xE := [(.iload_n 1, 1, 0, 0, 0), (.iconst 0, 2, 0, 0, 0), (.aload_n 0, 3, 0, 0, 0), (.getfield 23, 6, 8, 12, 1), (.iconst 0, 7, 0, 0, 0), (.iaload, 8, 0, 0, 0), (.iconst 1, 9, 0, 0, 0), (.isub, 10, 0, 0, 0), (.invokestatic 168, 13, 0, 0, 9), (.ireturn, 14, 0, 0, 0)]
abbrev kX11_isHand : List (Nat × List xE) := [(0, bX11_isHand_0)]
abbrev lX11_isHand : List (Nat × Nat × Nat × xS) := [(3, 0, 0, S_X11_in)]
theorem oX11_isHand_0 {Iv : xI} (hI : xm_good Iv)  : xm_okb Iv RX11 cX11_isHand false 2 lX11_isHand bX11_isHand_0 0 := xo_0 dX11_isHand_0 rfl trivial (xo_0 dX11_isHand_1 rfl trivial (xo_0 dX11_isHand_2 rfl trivial (xo_1 dX11_isHand_3 rfl (xm_fg_of (Or.inl q1967) (by decide) rfl (by decide) rfl rfl (Or.inl rfl) rfl) (xo_0 dX11_isHand_6 rfl trivial (xo_0 dX11_isHand_7 rfl trivial (xo_0 dX11_isHand_8 rfl trivial (xo_0 dX11_isHand_9 rfl trivial (xo_c rfl (cv_X11_in hI dX11_isHand_10 (Or.inl q1942) (by decide)) (xo_0 dX11_isHand_13 rfl trivial (xo_n))))))))))
theorem oX11_isHand {Iv : xI} (hI : xm_good Iv)  : ∀ q ∈ kX11_isHand, xm_okb Iv RX11 cX11_isHand false 2 lX11_isHand q.2 q.1 := by
  intro q hq
  simp only [List.mem_cons, List.not_mem_nil, or_false] at hq
  subst hq
  exact oX11_isHand_0 hI  
def S_X11_isHand : xS := tU fun as I Q => ∃ v, as = [.ref 0, .int v] ∧ Q (some (.int (t_b (t_in v (nI 0) (I 12 0 - nI 1))))) I
theorem body_X11_isHand : xm_Body 2 1 0 0 [] lX11_isHand kX11_isHand S_X11_isHand := by
  intro X avs w Q QX hX0 hS
  have hG := xm_go [] hX0
  have hX := xm_go [] hX0
  clear hX0
  obtain ⟨I, rfl, v, rfl, hQ⟩ := hS
  refine ⟨rfl, ?_⟩
  repeat' (first
    | ((with_reducible refine @And.intro (vp_in _ _) _ ?_ ?_); (· (first | with_reducible assumption | ((with_reducible refine t_vin ?_); decide) | ((with_reducible refine vp_in_nI ?_ ?_) <;> first | omega | decide) | (simp (disch := omega) only [xl_n, xl_m, nI_dec, nI_sb, nI_add, pk_mul]; (with_reducible refine vp_in_nI ?_ ?_) <;> first | omega | decide))); (conv => whnf))
    | (refine And.intro (by first | with_reducible assumption | exact (show tL _ = _ from rfl) | decide) ?_; (conv => whnf))
    | ((with_reducible refine @And.intro (_ = _) _ ?_ ?_); (· rfl); (conv => whnf))
    | ((with_reducible refine @And.intro (@LE.le Nat _ _ _) _ ?_ ?_); (· (first | exact Nat.zero_le _ | exact Nat.le_of_ble_eq_true rfl | omega)); (conv => whnf))
    | ((with_reducible refine @And.intro (@LT.lt Nat _ _ _) _ ?_ ?_); (· omega); (conv => whnf))
    | ((with_reducible refine @And.intro (∃ _, _ = _) _ ?_ ?_); (· exact ⟨_, rfl⟩); (conv => whnf))
    | ((with_reducible refine @And.intro (_ ∨ _) _ ?_ ?_); (· (first | exact Or.inl rfl | exact Or.inr rfl | exact t_b01 _ | assumption)); (conv => whnf))
    | ((with_reducible refine @And.intro (¬ (_ = _)) _ ?_ ?_); (· first | assumption | (with_reducible assumption)); (conv => whnf))
    | (refine hX _ _ _ _ _ _ ?_; (conv => whnf); fail_if_success show False)
    | (rw [t_si]; (conv => whnf))
    | (refine ⟨_, rfl, ?_⟩; (conv => whnf))
    | (refine ⟨_, _, rfl, ?_⟩; (conv => whnf))
    | (refine ⟨_, _, _, rfl, ?_⟩; (conv => whnf))
    | (refine ⟨_, _, _, _, rfl, ?_⟩; (conv => whnf))
    | (refine And.intro (fun c => ?_) (fun c => ?_) <;> (first | (exact absurd c (by decide +kernel)) | (conv => whnf)))
    | fail)
  all_goals refine t_q hQ ?_
  all_goals clear hX hG
  all_goals simp (disch := omega) only [xl_n, xl_m, nI_dec, nI_sb, xl_0, xl_1, tW_i, t_bn0, t_bn1, Classical.not_not, t_lt, nI_add, nI_1, pk_mul, nI_clamp, t_si, nI_eq, nI_leI, nM_ne, nM_ne] at *
theorem ct_X11_isHand {Iv : xI} (hI : xm_good Iv) : xm_Ct Iv yX11_isHand (ws_ yX11_isHand cX11_isHand 2 (some .boolean)) 2 0 0 S_X11_isHand := xm_enter (rt := 1) (init := false) (by decide +kernel) rfl (fun h => by cases h) (Or.inr (Or.inl ⟨rfl, Or.inl rfl⟩)) (oX11_isHand hI) body_X11_isHand
theorem cv_X11_isHand {Iv : xI} {own : String} {cc : ByteArray} {fr pc idx : Nat} (hI : xm_good Iv) (hdg : decode cc pc = .ok (.invokevirtual idx, 3)) (hl : xm_ml own idx yX11_isHand) (hfr : 2 < fr) : xm_CallOK Iv own cc fr pc (pc + 3) 2 0 0 (xm_this 8 S_X11_isHand) := xm_callV 8 hI (ct_X11_isHand hI) hdg hl q2306 qs85 q145 q2307 rfl rfl (by decide +kernel) hfr (by decide)
abbrev bX11_isPuppet_0 : List xE := [(.iload_n 1, 1, 0, 0, 0), (.iconst 0, 2, 0, 0, 0), (.aload_n 0, 3, 0, 0, 0), (.getfield 23, 6, 8, 12, 1), (.iconst 1, 7, 0, 0, 0), (.iaload, 8, 0, 0, 0), (.iconst 1, 9, 0, 0, 0), (.isub, 10, 0, 0, 0), (.invokestatic 168, 13, 0, 0, 9), (.ireturn, 14, 0, 0, 0)]
abbrev kX11_isPuppet : List (Nat × List xE) := [(0, bX11_isPuppet_0)]
abbrev lX11_isPuppet : List (Nat × Nat × Nat × xS) := [(3, 0, 0, S_X11_in)]
theorem oX11_isPuppet_0 {Iv : xI} (hI : xm_good Iv)  : xm_okb Iv RX11 cX11_isPuppet false 2 lX11_isPuppet bX11_isPuppet_0 0 := xo_0 dX11_isPuppet_0 rfl trivial (xo_0 dX11_isPuppet_1 rfl trivial (xo_0 dX11_isPuppet_2 rfl trivial (xo_1 dX11_isPuppet_3 rfl (xm_fg_of (Or.inl q1967) (by decide) rfl (by decide) rfl rfl (Or.inl rfl) rfl) (xo_0 dX11_isPuppet_6 rfl trivial (xo_0 dX11_isPuppet_7 rfl trivial (xo_0 dX11_isPuppet_8 rfl trivial (xo_0 dX11_isPuppet_9 rfl trivial (xo_c rfl (cv_X11_in hI dX11_isPuppet_10 (Or.inl q1942) (by decide)) (xo_0 dX11_isPuppet_13 rfl trivial (xo_n))))))))))
theorem oX11_isPuppet {Iv : xI} (hI : xm_good Iv)  : ∀ q ∈ kX11_isPuppet, xm_okb Iv RX11 cX11_isPuppet false 2 lX11_isPuppet q.2 q.1 := by
  intro q hq
  simp only [List.mem_cons, List.not_mem_nil, or_false] at hq
  subst hq
  exact oX11_isPuppet_0 hI  
def S_X11_isPuppet : xS := tU fun as I Q => ∃ v, as = [.ref 0, .int v] ∧ Q (some (.int (t_b (t_in v (nI 0) (I 12 1 - nI 1))))) I
theorem body_X11_isPuppet : xm_Body 2 1 0 0 [] lX11_isPuppet kX11_isPuppet S_X11_isPuppet := by
  intro X avs w Q QX hX0 hS
  have hG := xm_go [] hX0
  have hX := xm_go [] hX0
  clear hX0
  obtain ⟨I, rfl, v, rfl, hQ⟩ := hS
  refine ⟨rfl, ?_⟩
  repeat' (first
    | ((with_reducible refine @And.intro (vp_in _ _) _ ?_ ?_); (· (first | with_reducible assumption | ((with_reducible refine t_vin ?_); decide) | ((with_reducible refine vp_in_nI ?_ ?_) <;> first | omega | decide) | (simp (disch := omega) only [xl_n, xl_m, nI_dec, nI_sb, nI_add, pk_mul]; (with_reducible refine vp_in_nI ?_ ?_) <;> first | omega | decide))); (conv => whnf))
    | (refine And.intro (by first | with_reducible assumption | exact (show tL _ = _ from rfl) | decide) ?_; (conv => whnf))
    | ((with_reducible refine @And.intro (_ = _) _ ?_ ?_); (· rfl); (conv => whnf))
    | ((with_reducible refine @And.intro (@LE.le Nat _ _ _) _ ?_ ?_); (· (first | exact Nat.zero_le _ | exact Nat.le_of_ble_eq_true rfl | omega)); (conv => whnf))
    | ((with_reducible refine @And.intro (@LT.lt Nat _ _ _) _ ?_ ?_); (· omega); (conv => whnf))
    | ((with_reducible refine @And.intro (∃ _, _ = _) _ ?_ ?_); (· exact ⟨_, rfl⟩); (conv => whnf))
    | ((with_reducible refine @And.intro (_ ∨ _) _ ?_ ?_); (· (first | exact Or.inl rfl | exact Or.inr rfl | exact t_b01 _ | assumption)); (conv => whnf))
    | ((with_reducible refine @And.intro (¬ (_ = _)) _ ?_ ?_); (· first | assumption | (with_reducible assumption)); (conv => whnf))
    | (refine hX _ _ _ _ _ _ ?_; (conv => whnf); fail_if_success show False)
    | (rw [t_si]; (conv => whnf))
    | (refine ⟨_, rfl, ?_⟩; (conv => whnf))
    | (refine ⟨_, _, rfl, ?_⟩; (conv => whnf))
    | (refine ⟨_, _, _, rfl, ?_⟩; (conv => whnf))
    | (refine ⟨_, _, _, _, rfl, ?_⟩; (conv => whnf))
    | (refine And.intro (fun c => ?_) (fun c => ?_) <;> (first | (exact absurd c (by decide +kernel)) | (conv => whnf)))
    | fail)
  all_goals refine t_q hQ ?_
  all_goals clear hX hG
  all_goals simp (disch := omega) only [xl_n, xl_m, nI_dec, nI_sb, xl_0, xl_1, tW_i, t_bn0, t_bn1, Classical.not_not, t_lt, nI_add, nI_1, pk_mul, nI_clamp, t_si, nI_eq, nI_leI, nM_ne, nM_ne] at *
theorem ct_X11_isPuppet {Iv : xI} (hI : xm_good Iv) : xm_Ct Iv yX11_isPuppet (ws_ yX11_isPuppet cX11_isPuppet 2 (some .boolean)) 2 0 0 S_X11_isPuppet := xm_enter (rt := 1) (init := false) (by decide +kernel) rfl (fun h => by cases h) (Or.inr (Or.inl ⟨rfl, Or.inl rfl⟩)) (oX11_isPuppet hI) body_X11_isPuppet
theorem cv_X11_isPuppet {Iv : xI} {own : String} {cc : ByteArray} {fr pc idx : Nat} (hI : xm_good Iv) (hdg : decode cc pc = .ok (.invokevirtual idx, 3)) (hl : xm_ml own idx yX11_isPuppet) (hfr : 2 < fr) : xm_CallOK Iv own cc fr pc (pc + 3) 2 0 0 (xm_this 8 S_X11_isPuppet) := xm_callV 8 hI (ct_X11_isPuppet hI) hdg hl q2321 qs87 q145 q2322 rfl rfl (by decide +kernel) hfr (by decide)
abbrev bX11_isAct_0 : List xE := [(.iload_n 1, 1, 0, 0, 0), (.iconst 0, 2, 0, 0, 0), (.aload_n 0, 3, 0, 0, 0), (.getfield 23, 6, 8, 12, 1), (.iconst 2, 7, 0, 0, 0), (.iaload, 8, 0, 0, 0), (.iconst 1, 9, 0, 0, 0), (.isub, 10, 0, 0, 0), (.invokestatic 168, 13, 0, 0, 9), (.ireturn, 14, 0, 0, 0)]
abbrev kX11_isAct : List (Nat × List xE) := [(0, bX11_isAct_0)]
abbrev lX11_isAct : List (Nat × Nat × Nat × xS) := [(3, 0, 0, S_X11_in)]
theorem oX11_isAct_0 {Iv : xI} (hI : xm_good Iv)  : xm_okb Iv RX11 cX11_isAct false 2 lX11_isAct bX11_isAct_0 0 := xo_0 dX11_isAct_0 rfl trivial (xo_0 dX11_isAct_1 rfl trivial (xo_0 dX11_isAct_2 rfl trivial (xo_1 dX11_isAct_3 rfl (xm_fg_of (Or.inl q1967) (by decide) rfl (by decide) rfl rfl (Or.inl rfl) rfl) (xo_0 dX11_isAct_6 rfl trivial (xo_0 dX11_isAct_7 rfl trivial (xo_0 dX11_isAct_8 rfl trivial (xo_0 dX11_isAct_9 rfl trivial (xo_c rfl (cv_X11_in hI dX11_isAct_10 (Or.inl q1942) (by decide)) (xo_0 dX11_isAct_13 rfl trivial (xo_n))))))))))
theorem oX11_isAct {Iv : xI} (hI : xm_good Iv)  : ∀ q ∈ kX11_isAct, xm_okb Iv RX11 cX11_isAct false 2 lX11_isAct q.2 q.1 := by
  intro q hq
  simp only [List.mem_cons, List.not_mem_nil, or_false] at hq
  subst hq
  exact oX11_isAct_0 hI  
def S_X11_isAct : xS := tU fun as I Q => ∃ v, as = [.ref 0, .int v] ∧ Q (some (.int (t_b (t_in v (nI 0) (I 12 2 - nI 1))))) I
theorem body_X11_isAct : xm_Body 2 1 0 0 [] lX11_isAct kX11_isAct S_X11_isAct := by
  intro X avs w Q QX hX0 hS
  have hG := xm_go [] hX0
  have hX := xm_go [] hX0
  clear hX0
  obtain ⟨I, rfl, v, rfl, hQ⟩ := hS
  refine ⟨rfl, ?_⟩
  repeat' (first
    | ((with_reducible refine @And.intro (vp_in _ _) _ ?_ ?_); (· (first | with_reducible assumption | ((with_reducible refine t_vin ?_); decide) | ((with_reducible refine vp_in_nI ?_ ?_) <;> first | omega | decide) | (simp (disch := omega) only [xl_n, xl_m, nI_dec, nI_sb, nI_add, pk_mul]; (with_reducible refine vp_in_nI ?_ ?_) <;> first | omega | decide))); (conv => whnf))
    | (refine And.intro (by first | with_reducible assumption | exact (show tL _ = _ from rfl) | decide) ?_; (conv => whnf))
    | ((with_reducible refine @And.intro (_ = _) _ ?_ ?_); (· rfl); (conv => whnf))
    | ((with_reducible refine @And.intro (@LE.le Nat _ _ _) _ ?_ ?_); (· (first | exact Nat.zero_le _ | exact Nat.le_of_ble_eq_true rfl | omega)); (conv => whnf))
    | ((with_reducible refine @And.intro (@LT.lt Nat _ _ _) _ ?_ ?_); (· omega); (conv => whnf))
    | ((with_reducible refine @And.intro (∃ _, _ = _) _ ?_ ?_); (· exact ⟨_, rfl⟩); (conv => whnf))
    | ((with_reducible refine @And.intro (_ ∨ _) _ ?_ ?_); (· (first | exact Or.inl rfl | exact Or.inr rfl | exact t_b01 _ | assumption)); (conv => whnf))
    | ((with_reducible refine @And.intro (¬ (_ = _)) _ ?_ ?_); (· first | assumption | (with_reducible assumption)); (conv => whnf))
    | (refine hX _ _ _ _ _ _ ?_; (conv => whnf); fail_if_success show False)
    | (rw [t_si]; (conv => whnf))
    | (refine ⟨_, rfl, ?_⟩; (conv => whnf))
    | (refine ⟨_, _, rfl, ?_⟩; (conv => whnf))
    | (refine ⟨_, _, _, rfl, ?_⟩; (conv => whnf))
    | (refine ⟨_, _, _, _, rfl, ?_⟩; (conv => whnf))
    | (refine And.intro (fun c => ?_) (fun c => ?_) <;> (first | (exact absurd c (by decide +kernel)) | (conv => whnf)))
    | fail)
  all_goals refine t_q hQ ?_
  all_goals clear hX hG
  all_goals simp (disch := omega) only [xl_n, xl_m, nI_dec, nI_sb, xl_0, xl_1, tW_i, t_bn0, t_bn1, Classical.not_not, t_lt, nI_add, nI_1, pk_mul, nI_clamp, t_si, nI_eq, nI_leI, nM_ne, nM_ne] at *
theorem ct_X11_isAct {Iv : xI} (hI : xm_good Iv) : xm_Ct Iv yX11_isAct (ws_ yX11_isAct cX11_isAct 2 (some .boolean)) 2 0 0 S_X11_isAct := xm_enter (rt := 1) (init := false) (by decide +kernel) rfl (fun h => by cases h) (Or.inr (Or.inl ⟨rfl, Or.inl rfl⟩)) (oX11_isAct hI) body_X11_isAct
theorem cv_X11_isAct {Iv : xI} {own : String} {cc : ByteArray} {fr pc idx : Nat} (hI : xm_good Iv) (hdg : decode cc pc = .ok (.invokevirtual idx, 3)) (hl : xm_ml own idx yX11_isAct) (hfr : 2 < fr) : xm_CallOK Iv own cc fr pc (pc + 3) 2 0 0 (xm_this 8 S_X11_isAct) := xm_callV 8 hI (ct_X11_isAct hI) hdg hl q2333 qs89 q145 q2334 rfl rfl (by decide +kernel) hfr (by decide)
abbrev bX11_thrown_0 : List xE := [(.aload_n 0, 1, 0, 0, 0), (.getfield 134, 4, 8, 0, 0), (.ireturn, 5, 0, 0, 0)]
abbrev kX11_thrown : List (Nat × List xE) := [(0, bX11_thrown_0)]
abbrev lX11_thrown : List (Nat × Nat × Nat × xS) := []
theorem oX11_thrown_0 {Iv : xI} (hI : xm_good Iv)  : xm_okb Iv RX11 cX11_thrown false 1 lX11_thrown bX11_thrown_0 0 := xo_0 dX11_thrown_0 rfl trivial (xo_0 dX11_thrown_1 rfl (xm_fg_of (Or.inl q1955) (by decide) rfl (by decide) rfl rfl (Or.inl rfl) rfl) (xo_0 dX11_thrown_4 rfl trivial (xo_n)))
theorem oX11_thrown {Iv : xI} (hI : xm_good Iv)  : ∀ q ∈ kX11_thrown, xm_okb Iv RX11 cX11_thrown false 1 lX11_thrown q.2 q.1 := by
  intro q hq
  simp only [List.mem_cons, List.not_mem_nil, or_false] at hq
  subst hq
  exact oX11_thrown_0 hI  
def S_X11_thrown : xS := tU fun as I Q => as = [.ref 0] ∧ Q (some (.int (I 0 0))) I
theorem body_X11_thrown : xm_Body 1 0 0 0 [] lX11_thrown kX11_thrown S_X11_thrown := by
  intro X avs w Q QX hX0 hS
  have hG := xm_go [] hX0
  have hX := xm_go [] hX0
  clear hX0
  obtain ⟨I, rfl, rfl, hQ⟩ := hS
  refine ⟨rfl, ?_⟩
  repeat' (first
    | ((with_reducible refine @And.intro (vp_in _ _) _ ?_ ?_); (· (first | with_reducible assumption | ((with_reducible refine t_vin ?_); decide) | ((with_reducible refine vp_in_nI ?_ ?_) <;> first | omega | decide) | (simp (disch := omega) only [xl_n, xl_m, nI_dec, nI_sb, nI_add, pk_mul]; (with_reducible refine vp_in_nI ?_ ?_) <;> first | omega | decide))); (conv => whnf))
    | (refine And.intro (by first | with_reducible assumption | exact (show tL _ = _ from rfl) | decide) ?_; (conv => whnf))
    | ((with_reducible refine @And.intro (_ = _) _ ?_ ?_); (· rfl); (conv => whnf))
    | ((with_reducible refine @And.intro (@LE.le Nat _ _ _) _ ?_ ?_); (· (first | exact Nat.zero_le _ | exact Nat.le_of_ble_eq_true rfl | omega)); (conv => whnf))
    | ((with_reducible refine @And.intro (@LT.lt Nat _ _ _) _ ?_ ?_); (· omega); (conv => whnf))
    | ((with_reducible refine @And.intro (∃ _, _ = _) _ ?_ ?_); (· exact ⟨_, rfl⟩); (conv => whnf))
    | ((with_reducible refine @And.intro (_ ∨ _) _ ?_ ?_); (· (first | exact Or.inl rfl | exact Or.inr rfl | exact t_b01 _ | assumption)); (conv => whnf))
    | ((with_reducible refine @And.intro (¬ (_ = _)) _ ?_ ?_); (· first | assumption | (with_reducible assumption)); (conv => whnf))
    | (refine hX _ _ _ _ _ _ ?_; (conv => whnf); fail_if_success show False)
    | (rw [t_si]; (conv => whnf))
    | (refine ⟨_, rfl, ?_⟩; (conv => whnf))
    | (refine ⟨_, _, rfl, ?_⟩; (conv => whnf))
    | (refine ⟨_, _, _, rfl, ?_⟩; (conv => whnf))
    | (refine ⟨_, _, _, _, rfl, ?_⟩; (conv => whnf))
    | (refine And.intro (fun c => ?_) (fun c => ?_) <;> (first | (exact absurd c (by decide +kernel)) | (conv => whnf)))
    | fail)
  exact hQ
theorem ct_X11_thrown {Iv : xI} (hI : xm_good Iv) : xm_Ct Iv yX11_thrown (ws_ yX11_thrown cX11_thrown 1 (some .int)) 1 0 0 S_X11_thrown := xm_enter (rt := 0) (init := false) (by decide +kernel) rfl (fun h => by cases h) (Or.inl ⟨rfl, rfl⟩) (oX11_thrown hI) body_X11_thrown
theorem cv_X11_thrown {Iv : xI} {own : String} {cc : ByteArray} {fr pc idx : Nat} (hI : xm_good Iv) (hdg : decode cc pc = .ok (.invokevirtual idx, 3)) (hl : xm_ml own idx yX11_thrown) (hfr : 1 < fr) : xm_CallOK Iv own cc fr pc (pc + 3) 1 0 0 (xm_this 8 S_X11_thrown) := xm_callV 8 hI (ct_X11_thrown hI) hdg hl q2126 q2127 q145 q2128 rfl rfl (by decide +kernel) hfr (by decide)
abbrev bX11_bad_0 : List xE := [(.iload_n 1, 1, 0, 0, 0), (.ifCond .eq 25, 4, 0, 26, 0), (.aload_n 0, 5, 0, 0, 0), (.getfield 134, 8, 8, 0, 0), (.ifCond .ne 18, 11, 0, 26, 0), (.aload_n 0, 12, 0, 0, 0), (.iload_n 2, 13, 0, 0, 0), (.putfield 134, 16, 8, 0, 0), (.aload_n 0, 17, 0, 0, 0), (.getfield 17, 20, 8, 10, 1), (.iload_n 3, 21, 0, 0, 0), (.dup2, 22, 0, 0, 0), (.iaload, 23, 0, 0, 0), (.iconst 1, 24, 0, 0, 0), (.iadd, 25, 0, 0, 0), (.iastore, 26, 0, 0, 0)]
abbrev bX11_bad_26 : List xE := [(.aload_n 0, 27, 0, 0, 0), (.getfield 134, 30, 8, 0, 0), (.ifCond .eq 7, 33, 0, 37, 0), (.iconst 1, 34, 0, 0, 0), (.goto 4, 37, 0, 38, 0)]
abbrev bX11_bad_37 : List xE := [(.iconst 0, 38, 0, 0, 0)]
abbrev bX11_bad_38 : List xE := [(.ireturn, 39, 0, 0, 0)]
abbrev kX11_bad : List (Nat × List xE) := [(0, bX11_bad_0), (26, bX11_bad_26), (37, bX11_bad_37), (38, bX11_bad_38)]
abbrev lX11_bad : List (Nat × Nat × Nat × xS) := []
theorem oX11_bad_0 {Iv : xI} (hI : xm_good Iv)  : xm_okb Iv RX11 cX11_bad false 1 lX11_bad bX11_bad_0 0 := xo_0 dX11_bad_0 rfl trivial (xo_0 dX11_bad_1 rfl rfl (xo_0 dX11_bad_4 rfl trivial (xo_0 dX11_bad_5 rfl (xm_fg_of (Or.inl q1955) (by decide) rfl (by decide) rfl rfl (Or.inl rfl) rfl) (xo_0 dX11_bad_8 rfl rfl (xo_0 dX11_bad_11 rfl trivial (xo_0 dX11_bad_12 rfl trivial (xo_0 dX11_bad_13 rfl (xm_fp_of (xm_fg_of (Or.inl q1955) (by decide) rfl (by decide) rfl rfl (Or.inl rfl) rfl) (by decide) rfl (Or.inl ⟨rfl, rfl⟩) rfl) (xo_0 dX11_bad_16 rfl trivial (xo_1 dX11_bad_17 rfl (xm_fg_of (Or.inl q1965) (by decide) rfl (by decide) rfl rfl (Or.inl rfl) rfl) (xo_0 dX11_bad_20 rfl trivial (xo_0 dX11_bad_21 rfl trivial (xo_0 dX11_bad_22 rfl trivial (xo_0 dX11_bad_23 rfl trivial (xo_0 dX11_bad_24 rfl trivial (xo_0 dX11_bad_25 rfl trivial (xo_n))))))))))))))))
theorem oX11_bad_26 {Iv : xI} (hI : xm_good Iv)  : xm_okb Iv RX11 cX11_bad false 1 lX11_bad bX11_bad_26 26 := xo_0 dX11_bad_26 rfl trivial (xo_0 dX11_bad_27 rfl (xm_fg_of (Or.inl q1955) (by decide) rfl (by decide) rfl rfl (Or.inl rfl) rfl) (xo_0 dX11_bad_30 rfl rfl (xo_0 dX11_bad_33 rfl trivial (xo_0 dX11_bad_34 rfl rfl (xo_n)))))
theorem oX11_bad_37 {Iv : xI} (hI : xm_good Iv)  : xm_okb Iv RX11 cX11_bad false 1 lX11_bad bX11_bad_37 37 := xo_0 dX11_bad_37 rfl trivial (xo_n)
theorem oX11_bad_38 {Iv : xI} (hI : xm_good Iv)  : xm_okb Iv RX11 cX11_bad false 1 lX11_bad bX11_bad_38 38 := xo_0 dX11_bad_38 rfl trivial (xo_n)
theorem oX11_bad {Iv : xI} (hI : xm_good Iv)  : ∀ q ∈ kX11_bad, xm_okb Iv RX11 cX11_bad false 1 lX11_bad q.2 q.1 := by
  intro q hq
  simp only [List.mem_cons, List.not_mem_nil, or_false] at hq
  rcases hq with rfl | rfl | rfl | rfl
  · exact oX11_bad_0 hI  
  · exact oX11_bad_26 hI  
  · exact oX11_bad_37 hI  
  · exact oX11_bad_38 hI  
/-- refused, or not -/
def S_X11_bad : xS := tU fun as I Q => ∃ v what r, as = [.ref 0, .int v, .int what, .int r] ∧ I 0 0 = nI 0 ∧ ¬ what = nI 0 ∧ vp_in r 2 ∧ ((v = 0 → Q (some (.int (nI 0))) I) ∧ (¬ v = 0 → Q (some (.int (nI 1))) (xm_u2 (xm_u2 I 0 0 what) 10 r.toNatClampNeg (I 10 r.toNatClampNeg + nI 1))))
theorem body_X11_bad : xm_Body 4 1 0 0 [] lX11_bad kX11_bad S_X11_bad := by
  intro X avs w Q QX hX0 hS
  have hG := xm_go [] hX0
  have hX := xm_go [] hX0
  clear hX0
  obtain ⟨I, rfl, v, what, r, rfl, h0, hw, hr, hQ0, hQ1⟩ := hS
  refine ⟨rfl, ?_⟩
  repeat' (first
    | ((with_reducible refine @And.intro (vp_in _ _) _ ?_ ?_); (· (first | with_reducible assumption | ((with_reducible refine t_vin ?_); decide) | ((with_reducible refine vp_in_nI ?_ ?_) <;> first | omega | decide) | (simp (disch := omega) only [xl_n, xl_m, nI_dec, nI_sb, nI_add, pk_mul]; (with_reducible refine vp_in_nI ?_ ?_) <;> first | omega | decide))); (conv => whnf))
    | (refine And.intro (by first | with_reducible assumption | exact (show tL _ = _ from rfl) | decide) ?_; (conv => whnf))
    | ((with_reducible refine @And.intro (_ = _) _ ?_ ?_); (· rfl); (conv => whnf))
    | ((with_reducible refine @And.intro (@LE.le Nat _ _ _) _ ?_ ?_); (· (first | exact Nat.zero_le _ | exact Nat.le_of_ble_eq_true rfl | omega)); (conv => whnf))
    | ((with_reducible refine @And.intro (@LT.lt Nat _ _ _) _ ?_ ?_); (· omega); (conv => whnf))
    | ((with_reducible refine @And.intro (∃ _, _ = _) _ ?_ ?_); (· exact ⟨_, rfl⟩); (conv => whnf))
    | ((with_reducible refine @And.intro (_ ∨ _) _ ?_ ?_); (· (first | exact Or.inl rfl | exact Or.inr rfl | exact t_b01 _ | assumption)); (conv => whnf))
    | ((with_reducible refine @And.intro (¬ (_ = _)) _ ?_ ?_); (· first | assumption | (with_reducible assumption)); (conv => whnf))
    | (refine hX _ _ _ _ _ _ ?_; (conv => whnf); fail_if_success show False)
    | (rw [t_si]; (conv => whnf))
    | (refine ⟨_, rfl, ?_⟩; (conv => whnf))
    | (refine ⟨_, _, rfl, ?_⟩; (conv => whnf))
    | (refine ⟨_, _, _, rfl, ?_⟩; (conv => whnf))
    | (refine ⟨_, _, _, _, rfl, ?_⟩; (conv => whnf))
    | (refine And.intro (fun c => ?_) (fun c => ?_) <;> (first | (exact absurd c (by decide +kernel)) | (conv => whnf)))
    | fail)
  all_goals clear hX hG
  all_goals simp (disch := omega) only [xl_n, xl_m, nI_dec, nI_sb, xl_0, xl_1, tW_i, t_bn0, t_bn1, Classical.not_not, t_lt, nI_add, nI_1, pk_mul, nI_clamp, t_si, nI_eq, nI_leI, nM_ne, nM_ne, xm_u2_at, xm_u2_ne, reduceIte] at *
  all_goals (first | exact absurd h0 (by assumption) | exact hQ0 (by assumption) | exact hQ1 (by assumption) | exact absurd (by assumption) hw | simp_all)
theorem ct_X11_bad {Iv : xI} (hI : xm_good Iv) : xm_Ct Iv yX11_bad (ws_ yX11_bad cX11_bad 4 (some .boolean)) 1 0 0 S_X11_bad := xm_enter (rt := 1) (init := false) (by decide +kernel) rfl (fun h => by cases h) (Or.inr (Or.inl ⟨rfl, Or.inl rfl⟩)) (oX11_bad hI) body_X11_bad
theorem cv_X11_bad {Iv : xI} {own : String} {cc : ByteArray} {fr pc idx : Nat} (hI : xm_good Iv) (hdg : decode cc pc = .ok (.invokevirtual idx, 3)) (hl : xm_ml own idx yX11_bad) (hfr : 1 < fr) : xm_CallOK Iv own cc fr pc (pc + 3) 4 0 0 (xm_this 8 S_X11_bad) := xm_callV 8 hI (ct_X11_bad hI) hdg hl q2139 qs53 q145 q2140 rfl rfl (by decide +kernel) hfr (by decide)
