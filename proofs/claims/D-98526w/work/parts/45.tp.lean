/-! ===== the reference: lies, acts ===== -/
set_option maxRecDepth 100000
def g_rem (x y : Int32) : Int32 := x - x / y * y
def g_lies (G : gG) (p h : Nat) : Int32 := g_rem (gfall (gGK G) p + nI 3 * glimp (gGK G) h + gs (gnow G) p) (nI 16)
abbrev bX11_liesOf_0 : List xE := [(.aload_n 0, 1, 0, 0, 0), (.getfield 55, 4, 8, 22, 1), (.iload_n 1, 5, 0, 0, 0), (.aaload, 6, 0, 0, 0), (.iconst 0, 7, 0, 0, 0), (.iaload, 8, 0, 0, 0), (.iconst 3, 9, 0, 0, 0), (.aload_n 0, 10, 0, 0, 0), (.getfield 49, 13, 8, 20, 1), (.iload_n 2, 14, 0, 0, 0), (.aaload, 15, 0, 0, 0), (.iconst 0, 16, 0, 0, 0), (.iaload, 17, 0, 0, 0), (.imul, 18, 0, 0, 0), (.iadd, 19, 0, 0, 0), (.aload_n 0, 20, 0, 0, 0), (.getfield 91, 23, 8, 36, 1), (.bipush 9, 25, 0, 0, 0), (.iload_n 1, 26, 0, 0, 0), (.iadd, 27, 0, 0, 0), (.iaload, 28, 0, 0, 0), (.iadd, 29, 0, 0, 0), (.bipush 16, 31, 0, 0, 0), (.irem, 32, 0, 0, 0), (.ireturn, 33, 0, 0, 0)]
abbrev kX11_liesOf : List (Nat × List xE) := [(0, bX11_liesOf_0)]
abbrev lX11_liesOf : List (Nat × Nat × Nat × xS) := []
theorem oX11_liesOf_0 {Iv : xI} (hI : xm_good Iv)  : xm_okb Iv RX11 cX11_liesOf false 1 lX11_liesOf bX11_liesOf_0 0 := xo_0 dX11_liesOf_0 rfl trivial (xo_1 dX11_liesOf_1 rfl (xm_fg_of (Or.inl q1977) (by decide) rfl (by decide) rfl rfl (Or.inl rfl) rfl) (xo_0 dX11_liesOf_4 rfl trivial (xo_0 dX11_liesOf_5 rfl trivial (xo_0 dX11_liesOf_6 rfl trivial (xo_0 dX11_liesOf_7 rfl trivial (xo_0 dX11_liesOf_8 rfl trivial (xo_0 dX11_liesOf_9 rfl trivial (xo_1 dX11_liesOf_10 rfl (xm_fg_of (Or.inl q1975) (by decide) rfl (by decide) rfl rfl (Or.inl rfl) rfl) (xo_0 dX11_liesOf_13 rfl trivial (xo_0 dX11_liesOf_14 rfl trivial (xo_0 dX11_liesOf_15 rfl trivial (xo_0 dX11_liesOf_16 rfl trivial (xo_0 dX11_liesOf_17 rfl trivial (xo_0 dX11_liesOf_18 rfl trivial (xo_0 dX11_liesOf_19 rfl trivial (xo_1 dX11_liesOf_20 rfl (xm_fg_of (Or.inl q1991) (by decide) rfl (by decide) rfl rfl (Or.inl rfl) rfl) (xo_0 dX11_liesOf_23 rfl (xo_bipush (by decide +kernel)) (xo_0 dX11_liesOf_25 rfl trivial (xo_0 dX11_liesOf_26 rfl trivial (xo_0 dX11_liesOf_27 rfl trivial (xo_0 dX11_liesOf_28 rfl trivial (xo_0 dX11_liesOf_29 rfl (xo_bipush (by decide +kernel)) (xo_0 dX11_liesOf_31 rfl trivial (xo_0 dX11_liesOf_32 rfl trivial (xo_n)))))))))))))))))))))))))
theorem oX11_liesOf {Iv : xI} (hI : xm_good Iv)  : ∀ q ∈ kX11_liesOf, xm_okb Iv RX11 cX11_liesOf false 1 lX11_liesOf q.2 q.1 := by
  intro q hq
  simp only [List.mem_cons, List.not_mem_nil, or_false] at hq
  subst hq
  exact oX11_liesOf_0 hI  
def S_X11_liesOf : xS := tU fun as I Q => ∃ p h, as = [.ref 0, .int (nI p), .int (nI h)] ∧ t_good I ∧ p < t_p I ∧ h < t_h I ∧ Q (some (.int (g_lies (tG I) p h))) I
theorem body_X11_liesOf : xm_Body 3 0 0 0 [] lX11_liesOf kX11_liesOf S_X11_liesOf := by
  intro X avs w Q QX hX0 hS
  have hG := xm_go [] hX0
  have hX := xm_go [] hX0
  clear hX0
  obtain ⟨I, rfl, p, h, rfl, hg, hp, hh, hQ⟩ := hS
  have hok := hg.1
  obtain ⟨hn, h9, hm, h8, -⟩ := id hok
  refine ⟨rfl, ?_⟩
  repeat' (first
    | ((with_reducible refine @And.intro (vp_in _ _) _ ?_ ?_); (· (first | with_reducible assumption | ((with_reducible refine t_vin ?_); decide) | ((with_reducible refine vp_in_nI ?_ ?_) <;> first | omega | decide) | (simp (disch := omega) only [xl_n, xl_m, nI_dec, nI_sb, nI_add, pk_mul]; (with_reducible refine vp_in_nI ?_ ?_) <;> first | omega | decide))); (conv => whnf))
    | (refine And.intro (by first | with_reducible assumption | exact (show tL _ = _ from rfl) | decide) ?_; (conv => whnf))
    | ((with_reducible refine @And.intro (_ = _) _ ?_ ?_); (· rfl); (conv => whnf))
    | ((with_reducible refine @And.intro (@LE.le Nat _ _ _) _ ?_ ?_); (· (first | exact Nat.zero_le _ | exact Nat.le_of_ble_eq_true rfl | omega)); (conv => whnf))
    | ((with_reducible refine @And.intro (@LT.lt Nat _ _ _) _ ?_ ?_); (· omega); (conv => whnf))
    | ((with_reducible refine @And.intro (∃ _, _ = _) _ ?_ ?_); (· exact ⟨_, rfl⟩); (conv => whnf))
    | ((with_reducible refine @And.intro (_ ∨ _) _ ?_ ?_); (· (first | exact Or.inl rfl | exact Or.inr rfl | exact t_b01 _ | assumption)); (conv => whnf))
    | ((with_reducible refine @And.intro (¬ (_ = _)) _ ?_ ?_); (· first | assumption | (with_reducible assumption)); (conv => whnf))
    | (refine hX _ _ _ _ _ _ ?_; (conv => whnf); fail_if_success show False)
    | (rw [t_si]; (conv => whnf))
    | (refine ⟨_, rfl, ?_⟩; (conv => whnf))
    | (refine ⟨_, _, rfl, ?_⟩; (conv => whnf))
    | (refine ⟨_, _, _, rfl, ?_⟩; (conv => whnf))
    | (refine ⟨_, _, _, _, rfl, ?_⟩; (conv => whnf))
    | (rw [t_l130 (by first | with_reducible assumption | omega | exact vp_lt (by assumption) | (rw [nI_clamp (by omega)]; omega))]; (conv => whnf))
    | (rw [t_l110 (by first | with_reducible assumption | omega | exact vp_lt (by assumption) | (rw [nI_clamp (by omega)]; omega))]; (conv => whnf))
    | (refine And.intro (fun c => ?_) (fun c => ?_) <;> (first | (exact absurd c (by decide +kernel)) | (conv => whnf)))
    | fail)
  refine t_q hQ ?_
  have e : g_lies (tG I) p h = g_rem (I (130 + p) 0 + nI 3 * I (110 + h) 0 + I 36 (9 + p)) (nI 16) := by
    show g_rem (gfall (tK I) p + nI 3 * glimp (tK I) h + gs (tA I 36) p) (nI 16) = _
    rw [tK_fall hp, tK_limp hh, tA_gs (by omega)]
  rw [e]
  clear hX hG hQ
  simp (disch := omega) only [xl_n, xl_m, nI_dec, nI_sb, xl_0, xl_1, tW_i, t_bn0, t_bn1, Classical.not_not, t_lt, nI_add, nI_1, pk_mul, nI_clamp, t_si, nI_eq, nI_leI, nM_ne, nM_ne] at *
  rfl
theorem ct_X11_liesOf {Iv : xI} (hI : xm_good Iv) : xm_Ct Iv yX11_liesOf (ws_ yX11_liesOf cX11_liesOf 3 (some .int)) 1 0 0 S_X11_liesOf := xm_enter (rt := 0) (init := false) (by decide +kernel) rfl (fun h => by cases h) (Or.inl ⟨rfl, rfl⟩) (oX11_liesOf hI) body_X11_liesOf
theorem cv_X11_liesOf {Iv : xI} {own : String} {cc : ByteArray} {fr pc idx : Nat} (hI : xm_good Iv) (hdg : decode cc pc = .ok (.invokevirtual idx, 3)) (hl : xm_ml own idx yX11_liesOf) (hfr : 1 < fr) : xm_CallOK Iv own cc fr pc (pc + 3) 3 0 0 (xm_this 8 S_X11_liesOf) := xm_callV 8 hI (ct_X11_liesOf hI) hdg hl q2510 qs107 q145 q2511 rfl rfl (by decide +kernel) hfr (by decide)
def q_lies (G : gG) (a b : Int32) : gR := g_ck G (g_isP G a && g_isH G b) (nI 1) 0 (g_says G (g_lies G a.toNatClampNeg b.toNatClampNeg))
abbrev bX11_lies_0 : List xE := [(.aload_n 0, 1, 0, 0, 0), (.iconst 0, 2, 0, 0, 0), (.putfield 134, 5, 8, 0, 0), (.aload_n 0, 6, 0, 0, 0), (.aload_n 0, 7, 0, 0, 0), (.iload_n 1, 8, 0, 0, 0), (.invokevirtual 338, 11, 0, 0, 9), (.ifCond .eq 11, 14, 0, 22, 0), (.aload_n 0, 15, 0, 0, 0), (.iload_n 2, 16, 0, 0, 0), (.invokevirtual 331, 19, 0, 1, 9), (.ifCond .ne 7, 22, 0, 26, 0)]
abbrev bX11_lies_22 : List xE := [(.iconst 1, 23, 0, 0, 0), (.goto 4, 26, 0, 27, 0)]
abbrev bX11_lies_26 : List xE := [(.iconst 0, 27, 0, 0, 0)]
abbrev bX11_lies_27 : List xE := [(.iconst 1, 28, 0, 0, 0), (.iconst 0, 29, 0, 0, 0), (.invokevirtual 249, 32, 0, 2, 9), (.ifCond .eq 5, 35, 0, 37, 0), (.iconst 0, 36, 0, 0, 0), (.ireturn, 37, 0, 0, 0)]
abbrev bX11_lies_37 : List xE := [(.aload_n 0, 38, 0, 0, 0), (.iload_n 1, 39, 0, 0, 0), (.iload_n 2, 40, 0, 0, 0), (.invokevirtual 421, 43, 0, 3, 9), (.ireturn, 44, 0, 0, 0)]
abbrev kX11_lies : List (Nat × List xE) := [(0, bX11_lies_0), (22, bX11_lies_22), (26, bX11_lies_26), (27, bX11_lies_27), (37, bX11_lies_37)]
abbrev lX11_lies : List (Nat × Nat × Nat × xS) := [(2, 0, 0, xm_this 8 S_X11_isPuppet), (2, 0, 0, xm_this 8 S_X11_isHand), (4, 0, 0, xm_this 8 S_X11_bad), (3, 0, 0, xm_this 8 S_X11_liesOf)]
theorem oX11_lies_0 {Iv : xI} (hI : xm_good Iv)  : xm_okb Iv RX11 cX11_lies false 3 lX11_lies bX11_lies_0 0 := xo_0 dX11_lies_0 rfl trivial (xo_0 dX11_lies_1 rfl trivial (xo_0 dX11_lies_2 rfl (xm_fp_of (xm_fg_of (Or.inl q1955) (by decide) rfl (by decide) rfl rfl (Or.inl rfl) rfl) (by decide) rfl (Or.inl ⟨rfl, rfl⟩) rfl) (xo_0 dX11_lies_5 rfl trivial (xo_0 dX11_lies_6 rfl trivial (xo_0 dX11_lies_7 rfl trivial (xo_c rfl (cv_X11_isPuppet hI dX11_lies_8 (Or.inl q2319) (by decide)) (xo_0 dX11_lies_11 rfl rfl (xo_0 dX11_lies_14 rfl trivial (xo_0 dX11_lies_15 rfl trivial (xo_c rfl (cv_X11_isHand hI dX11_lies_16 (Or.inl q2304) (by decide)) (xo_0 dX11_lies_19 rfl rfl (xo_n))))))))))))
theorem oX11_lies_22 {Iv : xI} (hI : xm_good Iv)  : xm_okb Iv RX11 cX11_lies false 3 lX11_lies bX11_lies_22 22 := xo_0 dX11_lies_22 rfl trivial (xo_0 dX11_lies_23 rfl rfl (xo_n))
theorem oX11_lies_26 {Iv : xI} (hI : xm_good Iv)  : xm_okb Iv RX11 cX11_lies false 3 lX11_lies bX11_lies_26 26 := xo_0 dX11_lies_26 rfl trivial (xo_n)
theorem oX11_lies_27 {Iv : xI} (hI : xm_good Iv)  : xm_okb Iv RX11 cX11_lies false 3 lX11_lies bX11_lies_27 27 := xo_0 dX11_lies_27 rfl trivial (xo_0 dX11_lies_28 rfl trivial (xo_c rfl (cv_X11_bad hI dX11_lies_29 (Or.inl q2137) (by decide)) (xo_0 dX11_lies_32 rfl rfl (xo_0 dX11_lies_35 rfl trivial (xo_0 dX11_lies_36 rfl trivial (xo_n))))))
theorem oX11_lies_37 {Iv : xI} (hI : xm_good Iv)  : xm_okb Iv RX11 cX11_lies false 3 lX11_lies bX11_lies_37 37 := xo_0 dX11_lies_37 rfl trivial (xo_0 dX11_lies_38 rfl trivial (xo_0 dX11_lies_39 rfl trivial (xo_c rfl (cv_X11_liesOf hI dX11_lies_40 (Or.inl q2508) (by decide)) (xo_0 dX11_lies_43 rfl trivial (xo_n)))))
theorem oX11_lies {Iv : xI} (hI : xm_good Iv)  : ∀ q ∈ kX11_lies, xm_okb Iv RX11 cX11_lies false 3 lX11_lies q.2 q.1 := by
  intro q hq
  simp only [List.mem_cons, List.not_mem_nil, or_false] at hq
  rcases hq with rfl | rfl | rfl | rfl | rfl
  · exact oX11_lies_0 hI  
  · exact oX11_lies_22 hI  
  · exact oX11_lies_26 hI  
  · exact oX11_lies_27 hI  
  · exact oX11_lies_37 hI  
def S_X11_lies : xS := tU fun as I Q => ∃ a b, as = [.ref 0, .int a, .int b] ∧ t_good I ∧ t_P Q (q_lies (tG I) a b)
theorem body_X11_lies : xm_Body 3 0 0 0 [] lX11_lies kX11_lies S_X11_lies := by
  intro X avs w Q QX hX0 hS
  have hG := xm_go [] hX0
  have hX := xm_go [] hX0
  clear hX0
  obtain ⟨I, rfl, a, b, rfl, hg, hQ⟩ := hS
  refine ⟨rfl, ?_⟩
  repeat' (first
    | ((with_reducible refine @And.intro (vp_in _ _) _ ?_ ?_); (· (first | with_reducible assumption | ((with_reducible refine t_vin ?_); decide) | ((with_reducible refine vp_in_nI ?_ ?_) <;> first | omega | decide) | (simp (disch := omega) only [xl_n, xl_m, nI_dec, nI_sb, nI_add, pk_mul]; (with_reducible refine vp_in_nI ?_ ?_) <;> first | omega | decide))); (conv => whnf))
    | (refine And.intro (by first | with_reducible assumption | exact (show tL _ = _ from rfl) | decide) ?_; (conv => whnf))
    | ((with_reducible refine @And.intro (_ = _) _ ?_ ?_); (· rfl); (conv => whnf))
    | ((with_reducible refine @And.intro (@LE.le Nat _ _ _) _ ?_ ?_); (· (first | exact Nat.zero_le _ | exact Nat.le_of_ble_eq_true rfl | omega)); (conv => whnf))
    | ((with_reducible refine @And.intro (@LT.lt Nat _ _ _) _ ?_ ?_); (· omega); (conv => whnf))
    | ((with_reducible refine @And.intro (∃ _, _ = _) _ ?_ ?_); (· exact ⟨_, rfl⟩); (conv => whnf))
    | ((with_reducible refine @And.intro (_ ∨ _) _ ?_ ?_); (· (first | exact Or.inl rfl | exact Or.inr rfl | exact t_b01 _ | assumption)); (conv => whnf))
    | ((with_reducible refine @And.intro (¬ (_ = _)) _ ?_ ?_); (· first | assumption | (with_reducible assumption)); (conv => whnf))
    | (refine hX _ _ _ _ _ _ ?_; (conv => whnf); fail_if_success show False)
    | fail)
  rw [t_si]
  obtain ⟨J, hJ, hg1, hG1, h01⟩ := t_pub hg
  rw [← hJ]
  rw [← hG1] at hQ
  clear hJ hG1 hg I
  have hg := hg1
  have hok := hg.1
  have hl := hg.2.1
  have h8 := hok.2.2.2.1
  have h9 := hok.2.1
  (conv => whnf)
  rcases t_pc hg a with ⟨p, hp, rfl, e1, f1⟩ | ⟨e1, f1⟩
  · rcases t_hc hg b with ⟨h, hh, rfl, e2, f2⟩ | ⟨e2, f2⟩
    · repeat' (first
        | ((with_reducible refine @And.intro (vp_in _ _) _ ?_ ?_); (· (first | with_reducible assumption | ((with_reducible refine t_vin ?_); decide) | ((with_reducible refine vp_in_nI ?_ ?_) <;> first | omega | decide) | (simp (disch := omega) only [xl_n, xl_m, nI_dec, nI_sb, nI_add, pk_mul]; (with_reducible refine vp_in_nI ?_ ?_) <;> first | omega | decide))); (conv => whnf))
        | (refine And.intro (by first | with_reducible assumption | exact (show tL _ = _ from rfl) | decide) ?_; (conv => whnf))
        | ((with_reducible refine @And.intro (_ = _) _ ?_ ?_); (· rfl); (conv => whnf))
        | ((with_reducible refine @And.intro (@LE.le Nat _ _ _) _ ?_ ?_); (· (first | exact Nat.zero_le _ | exact Nat.le_of_ble_eq_true rfl | omega)); (conv => whnf))
        | ((with_reducible refine @And.intro (@LT.lt Nat _ _ _) _ ?_ ?_); (· omega); (conv => whnf))
        | ((with_reducible refine @And.intro (∃ _, _ = _) _ ?_ ?_); (· exact ⟨_, rfl⟩); (conv => whnf))
        | ((with_reducible refine @And.intro (_ ∨ _) _ ?_ ?_); (· (first | exact Or.inl rfl | exact Or.inr rfl | exact t_b01 _ | assumption)); (conv => whnf))
        | ((with_reducible refine @And.intro (¬ (_ = _)) _ ?_ ?_); (· first | assumption | (with_reducible assumption)); (conv => whnf))
        | (refine hX _ _ _ _ _ _ ?_; (conv => whnf); fail_if_success show False)
        | (rw [t_si]; (conv => whnf))
        | (refine ⟨_, rfl, ?_⟩; (conv => whnf))
        | (refine ⟨_, _, rfl, ?_⟩; (conv => whnf))
        | (refine ⟨_, _, _, rfl, ?_⟩; (conv => whnf))
        | (refine ⟨_, _, _, _, rfl, ?_⟩; (conv => whnf))
        | (rw [e1]; (conv => whnf))
        | (rw [e2]; (conv => whnf))
        | (refine And.intro (fun c => ?_) (fun c => ?_) <;> (first | (exact absurd c (by decide +kernel)) | (conv => whnf)))
        | fail)
      rw [q_lies, f1, f2, nI_clamp (by omega), nI_clamp (by omega)] at hQ
      exact t_ask hQ hg t_sp.rf h01 rfl
    · repeat' (first
        | ((with_reducible refine @And.intro (vp_in _ _) _ ?_ ?_); (· (first | with_reducible assumption | ((with_reducible refine t_vin ?_); decide) | ((with_reducible refine vp_in_nI ?_ ?_) <;> first | omega | decide) | (simp (disch := omega) only [xl_n, xl_m, nI_dec, nI_sb, nI_add, pk_mul]; (with_reducible refine vp_in_nI ?_ ?_) <;> first | omega | decide))); (conv => whnf))
        | (refine And.intro (by first | with_reducible assumption | exact (show tL _ = _ from rfl) | decide) ?_; (conv => whnf))
        | ((with_reducible refine @And.intro (_ = _) _ ?_ ?_); (· rfl); (conv => whnf))
        | ((with_reducible refine @And.intro (@LE.le Nat _ _ _) _ ?_ ?_); (· (first | exact Nat.zero_le _ | exact Nat.le_of_ble_eq_true rfl | omega)); (conv => whnf))
        | ((with_reducible refine @And.intro (@LT.lt Nat _ _ _) _ ?_ ?_); (· omega); (conv => whnf))
        | ((with_reducible refine @And.intro (∃ _, _ = _) _ ?_ ?_); (· exact ⟨_, rfl⟩); (conv => whnf))
        | ((with_reducible refine @And.intro (_ ∨ _) _ ?_ ?_); (· (first | exact Or.inl rfl | exact Or.inr rfl | exact t_b01 _ | assumption)); (conv => whnf))
        | ((with_reducible refine @And.intro (¬ (_ = _)) _ ?_ ?_); (· first | assumption | (with_reducible assumption)); (conv => whnf))
        | (refine hX _ _ _ _ _ _ ?_; (conv => whnf); fail_if_success show False)
        | (rw [t_si]; (conv => whnf))
        | (refine ⟨_, rfl, ?_⟩; (conv => whnf))
        | (refine ⟨_, _, rfl, ?_⟩; (conv => whnf))
        | (refine ⟨_, _, _, rfl, ?_⟩; (conv => whnf))
        | (refine ⟨_, _, _, _, rfl, ?_⟩; (conv => whnf))
        | (rw [e1]; (conv => whnf))
        | (rw [e2]; (conv => whnf))
        | (refine And.intro (fun c => ?_) (fun c => ?_) <;> (first | (exact absurd c (by decide +kernel)) | (conv => whnf)))
        | fail)
      exact t_ref' hQ hg h01 (by simp [f1, f2]) (by decide) rfl rfl
  · rw [q_lies] at hQ
    repeat' (first
      | ((with_reducible refine @And.intro (vp_in _ _) _ ?_ ?_); (· (first | with_reducible assumption | ((with_reducible refine t_vin ?_); decide) | ((with_reducible refine vp_in_nI ?_ ?_) <;> first | omega | decide) | (simp (disch := omega) only [xl_n, xl_m, nI_dec, nI_sb, nI_add, pk_mul]; (with_reducible refine vp_in_nI ?_ ?_) <;> first | omega | decide))); (conv => whnf))
      | (refine And.intro (by first | with_reducible assumption | exact (show tL _ = _ from rfl) | decide) ?_; (conv => whnf))
      | ((with_reducible refine @And.intro (_ = _) _ ?_ ?_); (· rfl); (conv => whnf))
      | ((with_reducible refine @And.intro (@LE.le Nat _ _ _) _ ?_ ?_); (· (first | exact Nat.zero_le _ | exact Nat.le_of_ble_eq_true rfl | omega)); (conv => whnf))
      | ((with_reducible refine @And.intro (@LT.lt Nat _ _ _) _ ?_ ?_); (· omega); (conv => whnf))
      | ((with_reducible refine @And.intro (∃ _, _ = _) _ ?_ ?_); (· exact ⟨_, rfl⟩); (conv => whnf))
      | ((with_reducible refine @And.intro (_ ∨ _) _ ?_ ?_); (· (first | exact Or.inl rfl | exact Or.inr rfl | exact t_b01 _ | assumption)); (conv => whnf))
      | ((with_reducible refine @And.intro (¬ (_ = _)) _ ?_ ?_); (· first | assumption | (with_reducible assumption)); (conv => whnf))
      | (refine hX _ _ _ _ _ _ ?_; (conv => whnf); fail_if_success show False)
      | (rw [t_si]; (conv => whnf))
      | (refine ⟨_, rfl, ?_⟩; (conv => whnf))
      | (refine ⟨_, _, rfl, ?_⟩; (conv => whnf))
      | (refine ⟨_, _, _, rfl, ?_⟩; (conv => whnf))
      | (refine ⟨_, _, _, _, rfl, ?_⟩; (conv => whnf))
      | (rw [e1]; (conv => whnf))
      | (refine And.intro (fun c => ?_) (fun c => ?_) <;> (first | (exact absurd c (by decide +kernel)) | (conv => whnf)))
      | fail)
    exact t_ref' hQ hg h01 (by simp [f1]) (by decide) rfl rfl
theorem ct_X11_lies {Iv : xI} (hI : xm_good Iv) : xm_Ct Iv yX11_lies (ws_ yX11_lies cX11_lies 3 (some .int)) 3 0 0 S_X11_lies := xm_enter (rt := 0) (init := false) (by decide +kernel) rfl (fun h => by cases h) (Or.inl ⟨rfl, rfl⟩) (oX11_lies hI) body_X11_lies
theorem cv_X11_lies {Iv : xI} {own : String} {cc : ByteArray} {fr pc idx : Nat} (hI : xm_good Iv) (hdg : decode cc pc = .ok (.invokevirtual idx, 3)) (hl : xm_ml own idx yX11_lies) (hfr : 3 < fr) : xm_CallOK Iv own cc fr pc (pc + 3) 3 0 0 (xm_this 8 S_X11_lies) := xm_callV 8 hI (ct_X11_lies hI) hdg hl q2505 q2506 q145 q2507 rfl rfl (by decide +kernel) hfr (by decide)
def q_dropped (G : gG) (a b : Int32) : gR := g_ck G (g_isP G a) (nI 1) 0 (g_ck G (t_in b (nI 0) (nI 15)) (nI 2) 1 (g_says G (t_or (gn (gGK G)) fun h => g_al (gGK G) (gnow G) h && decide (g_lies G a.toNatClampNeg h = b))))
abbrev bX11_dropped_0 : List xE := [(.aload_n 0, 1, 0, 0, 0), (.iconst 0, 2, 0, 0, 0), (.putfield 134, 5, 8, 0, 0), (.aload_n 0, 6, 0, 0, 0), (.aload_n 0, 7, 0, 0, 0), (.iload_n 1, 8, 0, 0, 0), (.invokevirtual 338, 11, 0, 0, 9), (.ifCond .ne 7, 14, 0, 18, 0), (.iconst 1, 15, 0, 0, 0), (.goto 4, 18, 0, 19, 0)]
abbrev bX11_dropped_18 : List xE := [(.iconst 0, 19, 0, 0, 0)]
abbrev bX11_dropped_19 : List xE := [(.iconst 1, 20, 0, 0, 0), (.iconst 0, 21, 0, 0, 0), (.invokevirtual 249, 24, 0, 1, 9), (.ifCond .ne 27, 27, 0, 51, 0), (.aload_n 0, 28, 0, 0, 0), (.iload_n 2, 29, 0, 0, 0), (.iconst 0, 30, 0, 0, 0), (.bipush 15, 32, 0, 0, 0), (.invokestatic 168, 35, 0, 2, 9), (.ifCond .ne 7, 38, 0, 42, 0), (.iconst 1, 39, 0, 0, 0), (.goto 4, 42, 0, 43, 0)]
abbrev bX11_dropped_42 : List xE := [(.iconst 0, 43, 0, 0, 0)]
abbrev bX11_dropped_43 : List xE := [(.iconst 2, 44, 0, 0, 0), (.iconst 1, 45, 0, 0, 0), (.invokevirtual 249, 48, 0, 1, 9), (.ifCond .eq 5, 51, 0, 53, 0)]
abbrev bX11_dropped_51 : List xE := [(.iconst 0, 52, 0, 0, 0), (.ireturn, 53, 0, 0, 0)]
abbrev bX11_dropped_53 : List xE := [(.iconst 0, 54, 0, 0, 0), (.istore_n 3, 55, 0, 0, 0), (.iconst 0, 56, 0, 0, 0), (.istore 4, 58, 0, 0, 0)]
abbrev bX11_dropped_58 : List xE := [(.iload 4, 60, 0, 0, 0), (.aload_n 0, 61, 0, 0, 0), (.getfield 23, 64, 8, 12, 1), (.iconst 0, 65, 0, 0, 0), (.iaload, 66, 0, 0, 0), (.if_icmp .ge 44, 69, 0, 110, 0), (.iload_n 3, 70, 0, 0, 0), (.aload_n 0, 71, 0, 0, 0), (.aload_n 0, 72, 0, 0, 0), (.getfield 91, 75, 8, 36, 1), (.iload 4, 77, 0, 0, 0), (.invokevirtual 320, 80, 0, 3, 9), (.ifCond .eq 21, 83, 0, 101, 0), (.aload_n 0, 84, 0, 0, 0), (.iload_n 1, 85, 0, 0, 0), (.iload 4, 87, 0, 0, 0), (.invokevirtual 421, 90, 0, 4, 9), (.iload_n 2, 91, 0, 0, 0), (.if_icmp .ne 10, 94, 0, 101, 0), (.iconst 1, 95, 0, 0, 0), (.iload 4, 97, 0, 0, 0), (.ishl, 98, 0, 0, 0), (.goto 4, 101, 0, 102, 0)]
abbrev bX11_dropped_101 : List xE := [(.iconst 0, 102, 0, 0, 0)]
abbrev bX11_dropped_102 : List xE := [(.ior, 103, 0, 0, 0), (.istore_n 3, 104, 0, 0, 0), (.iinc 4 1, 107, 0, 0, 0), (.goto (-49), 110, 0, 58, 0)]
abbrev bX11_dropped_110 : List xE := [(.iload_n 3, 111, 0, 0, 0), (.ireturn, 112, 0, 0, 0)]
abbrev kX11_dropped : List (Nat × List xE) := [(0, bX11_dropped_0), (18, bX11_dropped_18), (19, bX11_dropped_19), (42, bX11_dropped_42), (43, bX11_dropped_43), (51, bX11_dropped_51), (53, bX11_dropped_53), (58, bX11_dropped_58), (101, bX11_dropped_101), (102, bX11_dropped_102), (110, bX11_dropped_110)]
abbrev lX11_dropped : List (Nat × Nat × Nat × xS) := [(2, 0, 0, xm_this 8 S_X11_isPuppet), (4, 0, 0, xm_this 8 S_X11_bad), (3, 0, 0, S_X11_in), (3, 0, 0, xm_this 8 S_X11_isAlive), (3, 0, 0, xm_this 8 S_X11_liesOf)]
theorem oX11_dropped_0 {Iv : xI} (hI : xm_good Iv)  : xm_okb Iv RX11 cX11_dropped false 3 lX11_dropped bX11_dropped_0 0 := xo_0 dX11_dropped_0 rfl trivial (xo_0 dX11_dropped_1 rfl trivial (xo_0 dX11_dropped_2 rfl (xm_fp_of (xm_fg_of (Or.inl q1955) (by decide) rfl (by decide) rfl rfl (Or.inl rfl) rfl) (by decide) rfl (Or.inl ⟨rfl, rfl⟩) rfl) (xo_0 dX11_dropped_5 rfl trivial (xo_0 dX11_dropped_6 rfl trivial (xo_0 dX11_dropped_7 rfl trivial (xo_c rfl (cv_X11_isPuppet hI dX11_dropped_8 (Or.inl q2319) (by decide)) (xo_0 dX11_dropped_11 rfl rfl (xo_0 dX11_dropped_14 rfl trivial (xo_0 dX11_dropped_15 rfl rfl (xo_n))))))))))
theorem oX11_dropped_18 {Iv : xI} (hI : xm_good Iv)  : xm_okb Iv RX11 cX11_dropped false 3 lX11_dropped bX11_dropped_18 18 := xo_0 dX11_dropped_18 rfl trivial (xo_n)
theorem oX11_dropped_19 {Iv : xI} (hI : xm_good Iv)  : xm_okb Iv RX11 cX11_dropped false 3 lX11_dropped bX11_dropped_19 19 := xo_0 dX11_dropped_19 rfl trivial (xo_0 dX11_dropped_20 rfl trivial (xo_c rfl (cv_X11_bad hI dX11_dropped_21 (Or.inl q2137) (by decide)) (xo_0 dX11_dropped_24 rfl rfl (xo_0 dX11_dropped_27 rfl trivial (xo_0 dX11_dropped_28 rfl trivial (xo_0 dX11_dropped_29 rfl trivial (xo_0 dX11_dropped_30 rfl (xo_bipush (by decide +kernel)) (xo_c rfl (cv_X11_in hI dX11_dropped_32 (Or.inl q1942) (by decide)) (xo_0 dX11_dropped_35 rfl rfl (xo_0 dX11_dropped_38 rfl trivial (xo_0 dX11_dropped_39 rfl rfl (xo_n))))))))))))
theorem oX11_dropped_42 {Iv : xI} (hI : xm_good Iv)  : xm_okb Iv RX11 cX11_dropped false 3 lX11_dropped bX11_dropped_42 42 := xo_0 dX11_dropped_42 rfl trivial (xo_n)
theorem oX11_dropped_43 {Iv : xI} (hI : xm_good Iv)  : xm_okb Iv RX11 cX11_dropped false 3 lX11_dropped bX11_dropped_43 43 := xo_0 dX11_dropped_43 rfl trivial (xo_0 dX11_dropped_44 rfl trivial (xo_c rfl (cv_X11_bad hI dX11_dropped_45 (Or.inl q2137) (by decide)) (xo_0 dX11_dropped_48 rfl rfl (xo_n))))
theorem oX11_dropped_51 {Iv : xI} (hI : xm_good Iv)  : xm_okb Iv RX11 cX11_dropped false 3 lX11_dropped bX11_dropped_51 51 := xo_0 dX11_dropped_51 rfl trivial (xo_0 dX11_dropped_52 rfl trivial (xo_n))
theorem oX11_dropped_53 {Iv : xI} (hI : xm_good Iv)  : xm_okb Iv RX11 cX11_dropped false 3 lX11_dropped bX11_dropped_53 53 := xo_0 dX11_dropped_53 rfl trivial (xo_0 dX11_dropped_54 rfl trivial (xo_0 dX11_dropped_55 rfl trivial (xo_0 dX11_dropped_56 rfl trivial (xo_n))))
theorem oX11_dropped_58 {Iv : xI} (hI : xm_good Iv)  : xm_okb Iv RX11 cX11_dropped false 3 lX11_dropped bX11_dropped_58 58 := xo_0 dX11_dropped_58 rfl trivial (xo_0 dX11_dropped_60 rfl trivial (xo_1 dX11_dropped_61 rfl (xm_fg_of (Or.inl q1967) (by decide) rfl (by decide) rfl rfl (Or.inl rfl) rfl) (xo_0 dX11_dropped_64 rfl trivial (xo_0 dX11_dropped_65 rfl trivial (xo_0 dX11_dropped_66 rfl rfl (xo_0 dX11_dropped_69 rfl trivial (xo_0 dX11_dropped_70 rfl trivial (xo_0 dX11_dropped_71 rfl trivial (xo_1 dX11_dropped_72 rfl (xm_fg_of (Or.inl q1991) (by decide) rfl (by decide) rfl rfl (Or.inl rfl) rfl) (xo_0 dX11_dropped_75 rfl trivial (xo_c rfl (cv_X11_isAlive hI dX11_dropped_77 (Or.inl q2292) (by decide)) (xo_0 dX11_dropped_80 rfl rfl (xo_0 dX11_dropped_83 rfl trivial (xo_0 dX11_dropped_84 rfl trivial (xo_0 dX11_dropped_85 rfl trivial (xo_c rfl (cv_X11_liesOf hI dX11_dropped_87 (Or.inl q2508) (by decide)) (xo_0 dX11_dropped_90 rfl trivial (xo_0 dX11_dropped_91 rfl rfl (xo_0 dX11_dropped_94 rfl trivial (xo_0 dX11_dropped_95 rfl trivial (xo_0 dX11_dropped_97 rfl trivial (xo_0 dX11_dropped_98 rfl rfl (xo_n)))))))))))))))))))))))
theorem oX11_dropped_101 {Iv : xI} (hI : xm_good Iv)  : xm_okb Iv RX11 cX11_dropped false 3 lX11_dropped bX11_dropped_101 101 := xo_0 dX11_dropped_101 rfl trivial (xo_n)
theorem oX11_dropped_102 {Iv : xI} (hI : xm_good Iv)  : xm_okb Iv RX11 cX11_dropped false 3 lX11_dropped bX11_dropped_102 102 := xo_0 dX11_dropped_102 rfl trivial (xo_0 dX11_dropped_103 rfl trivial (xo_0 dX11_dropped_104 rfl trivial (xo_0 dX11_dropped_107 rfl rfl (xo_n))))
theorem oX11_dropped_110 {Iv : xI} (hI : xm_good Iv)  : xm_okb Iv RX11 cX11_dropped false 3 lX11_dropped bX11_dropped_110 110 := xo_0 dX11_dropped_110 rfl trivial (xo_0 dX11_dropped_111 rfl trivial (xo_n))
theorem oX11_dropped {Iv : xI} (hI : xm_good Iv)  : ∀ q ∈ kX11_dropped, xm_okb Iv RX11 cX11_dropped false 3 lX11_dropped q.2 q.1 := by
  intro q hq
  simp only [List.mem_cons, List.not_mem_nil, or_false] at hq
  rcases hq with rfl | rfl | rfl | rfl | rfl | rfl | rfl | rfl | rfl | rfl | rfl
  · exact oX11_dropped_0 hI  
  · exact oX11_dropped_18 hI  
  · exact oX11_dropped_19 hI  
  · exact oX11_dropped_42 hI  
  · exact oX11_dropped_43 hI  
  · exact oX11_dropped_51 hI  
  · exact oX11_dropped_53 hI  
  · exact oX11_dropped_58 hI  
  · exact oX11_dropped_101 hI  
  · exact oX11_dropped_102 hI  
  · exact oX11_dropped_110 hI  
def S_X11_dropped : xS := tU fun as I Q => ∃ a b, as = [.ref 0, .int a, .int b] ∧ t_good I ∧ t_P Q (q_dropped (tG I) a b)
theorem body_X11_dropped : xm_Body 5 0 0 0 [] lX11_dropped kX11_dropped S_X11_dropped := by
  intro X avs w Q QX hX0 hS
  have hG := xm_go [] hX0
  have hX := xm_go [58] hX0
  clear hX0
  obtain ⟨I, rfl, a, b, rfl, hg, hQ⟩ := hS
  refine ⟨rfl, ?_⟩
  repeat' (first
    | ((with_reducible refine @And.intro (vp_in _ _) _ ?_ ?_); (· (first | with_reducible assumption | ((with_reducible refine t_vin ?_); decide) | ((with_reducible refine vp_in_nI ?_ ?_) <;> first | omega | decide) | (simp (disch := omega) only [xl_n, xl_m, nI_dec, nI_sb, nI_add, pk_mul]; (with_reducible refine vp_in_nI ?_ ?_) <;> first | omega | decide))); (conv => whnf))
    | (refine And.intro (by first | with_reducible assumption | exact (show tL _ = _ from rfl) | decide) ?_; (conv => whnf))
    | ((with_reducible refine @And.intro (_ = _) _ ?_ ?_); (· rfl); (conv => whnf))
    | ((with_reducible refine @And.intro (@LE.le Nat _ _ _) _ ?_ ?_); (· (first | exact Nat.zero_le _ | exact Nat.le_of_ble_eq_true rfl | omega)); (conv => whnf))
    | ((with_reducible refine @And.intro (@LT.lt Nat _ _ _) _ ?_ ?_); (· omega); (conv => whnf))
    | ((with_reducible refine @And.intro (∃ _, _ = _) _ ?_ ?_); (· exact ⟨_, rfl⟩); (conv => whnf))
    | ((with_reducible refine @And.intro (_ ∨ _) _ ?_ ?_); (· (first | exact Or.inl rfl | exact Or.inr rfl | exact t_b01 _ | assumption)); (conv => whnf))
    | ((with_reducible refine @And.intro (¬ (_ = _)) _ ?_ ?_); (· first | assumption | (with_reducible assumption)); (conv => whnf))
    | (refine hX _ _ _ _ _ _ ?_; (conv => whnf); fail_if_success show False)
    | fail)
  rw [t_si]
  obtain ⟨J, hJ, hg1, hG1, h01⟩ := t_pub hg
  rw [← hJ]
  rw [← hG1] at hQ
  clear hJ hG1 hg I
  have hg := hg1
  have hok := hg.1
  have hl := hg.2.1
  have h8 := hok.2.2.2.1
  have h9 := hok.2.1
  (conv => whnf)
  have hn := hok.1
  rcases t_pc hg a with ⟨p, hp, rfl, e1, f1⟩ | ⟨e1, f1⟩
  · rw [q_dropped, f1, g_ck_t] at hQ
    rcases t_rc b 0 15 (L := Int32.ofInt 0) (H := Int32.ofInt 15) (by decide +kernel) (by decide +kernel) (by omega) (by omega) with ⟨n, -, hn15, rfl, e2, f2⟩ | ⟨e2, f2⟩
    · rw [f2, g_ck_t, nI_clamp (by omega)] at hQ
      have loop : ∀ k, k ≤ t_h J → X 58 [some (.ref 0), some (.int (nI p)), some (.int (nI n)), some (.int (t_or k fun h => g_al (tK J) (tA J 36) h && decide (g_lies (tG J) p h = nI n))), some (.int (nI k))] [] (tW J) 0 0 := by
        refine t_for fun k h1 ih => ?_
        refine hG _ _ _ _ _ _ ?_
        (conv => whnf)
        repeat' (first
          | ((with_reducible refine @And.intro (vp_in _ _) _ ?_ ?_); (· (first | with_reducible assumption | ((with_reducible refine t_vin ?_); decide) | ((with_reducible refine vp_in_nI ?_ ?_) <;> first | omega | decide) | (simp (disch := omega) only [xl_n, xl_m, nI_dec, nI_sb, nI_add, pk_mul]; (with_reducible refine vp_in_nI ?_ ?_) <;> first | omega | decide))); (conv => whnf))
          | (refine And.intro (by first | with_reducible assumption | exact (show tL _ = _ from rfl) | decide) ?_; (conv => whnf))
          | ((with_reducible refine @And.intro (_ = _) _ ?_ ?_); (· rfl); (conv => whnf))
          | ((with_reducible refine @And.intro (@LE.le Nat _ _ _) _ ?_ ?_); (· (first | exact Nat.zero_le _ | exact Nat.le_of_ble_eq_true rfl | omega)); (conv => whnf))
          | ((with_reducible refine @And.intro (@LT.lt Nat _ _ _) _ ?_ ?_); (· omega); (conv => whnf))
          | ((with_reducible refine @And.intro (∃ _, _ = _) _ ?_ ?_); (· exact ⟨_, rfl⟩); (conv => whnf))
          | ((with_reducible refine @And.intro (_ ∨ _) _ ?_ ?_); (· (first | exact Or.inl rfl | exact Or.inr rfl | exact t_b01 _ | assumption)); (conv => whnf))
          | ((with_reducible refine @And.intro (¬ (_ = _)) _ ?_ ?_); (· first | assumption | (with_reducible assumption)); (conv => whnf))
          | (refine hX _ _ _ _ _ _ ?_; (conv => whnf); fail_if_success show False)
          | (rw [t_si]; (conv => whnf))
          | (refine ⟨_, rfl, ?_⟩; (conv => whnf))
          | (refine ⟨_, _, rfl, ?_⟩; (conv => whnf))
          | (refine ⟨_, _, _, rfl, ?_⟩; (conv => whnf))
          | (refine ⟨_, _, _, _, rfl, ?_⟩; (conv => whnf))
          | fail)
        refine And.intro (fun c => ?_) (fun c => ?_) <;> (conv => whnf)
        · repeat' (first
            | ((with_reducible refine @And.intro (vp_in _ _) _ ?_ ?_); (· (first | with_reducible assumption | ((with_reducible refine t_vin ?_); decide) | ((with_reducible refine vp_in_nI ?_ ?_) <;> first | omega | decide) | (simp (disch := omega) only [xl_n, xl_m, nI_dec, nI_sb, nI_add, pk_mul]; (with_reducible refine vp_in_nI ?_ ?_) <;> first | omega | decide))); (conv => whnf))
            | (refine And.intro (by first | with_reducible assumption | exact (show tL _ = _ from rfl) | decide) ?_; (conv => whnf))
            | ((with_reducible refine @And.intro (_ = _) _ ?_ ?_); (· rfl); (conv => whnf))
            | ((with_reducible refine @And.intro (@LE.le Nat _ _ _) _ ?_ ?_); (· (first | exact Nat.zero_le _ | exact Nat.le_of_ble_eq_true rfl | omega)); (conv => whnf))
            | ((with_reducible refine @And.intro (@LT.lt Nat _ _ _) _ ?_ ?_); (· omega); (conv => whnf))
            | ((with_reducible refine @And.intro (∃ _, _ = _) _ ?_ ?_); (· exact ⟨_, rfl⟩); (conv => whnf))
            | ((with_reducible refine @And.intro (_ ∨ _) _ ?_ ?_); (· (first | exact Or.inl rfl | exact Or.inr rfl | exact t_b01 _ | assumption)); (conv => whnf))
            | ((with_reducible refine @And.intro (¬ (_ = _)) _ ?_ ?_); (· first | assumption | (with_reducible assumption)); (conv => whnf))
            | (refine hX _ _ _ _ _ _ ?_; (conv => whnf); fail_if_success show False)
            | (rw [t_si]; (conv => whnf))
            | (refine ⟨_, rfl, ?_⟩; (conv => whnf))
            | (refine ⟨_, _, rfl, ?_⟩; (conv => whnf))
            | (refine ⟨_, _, _, rfl, ?_⟩; (conv => whnf))
            | (refine ⟨_, _, _, _, rfl, ?_⟩; (conv => whnf))
            | fail)
          have : k = t_h J := Nat.le_antisymm h1 (t_kge hn c (by omega) (by omega))
          subst this
          exact t_ask hQ hg t_sp.rf h01 rfl
        · have hk : k < t_h J := t_klt hn c (by omega)
          have := ih (k + 1) (by omega) (by omega)
          rw [t_or_s] at this
          clear ih
          repeat' (first
            | ((with_reducible refine @And.intro (vp_in _ _) _ ?_ ?_); (· (first | with_reducible assumption | ((with_reducible refine t_vin ?_); decide) | ((with_reducible refine vp_in_nI ?_ ?_) <;> first | omega | decide) | (simp (disch := omega) only [xl_n, xl_m, nI_dec, nI_sb, nI_add, pk_mul]; (with_reducible refine vp_in_nI ?_ ?_) <;> first | omega | decide))); (conv => whnf))
            | (refine And.intro (by first | with_reducible assumption | exact (show tL _ = _ from rfl) | decide) ?_; (conv => whnf))
            | ((with_reducible refine @And.intro (_ = _) _ ?_ ?_); (· rfl); (conv => whnf))
            | ((with_reducible refine @And.intro (@LE.le Nat _ _ _) _ ?_ ?_); (· (first | exact Nat.zero_le _ | exact Nat.le_of_ble_eq_true rfl | omega)); (conv => whnf))
            | ((with_reducible refine @And.intro (@LT.lt Nat _ _ _) _ ?_ ?_); (· omega); (conv => whnf))
            | ((with_reducible refine @And.intro (∃ _, _ = _) _ ?_ ?_); (· exact ⟨_, rfl⟩); (conv => whnf))
            | ((with_reducible refine @And.intro (_ ∨ _) _ ?_ ?_); (· (first | exact Or.inl rfl | exact Or.inr rfl | exact t_b01 _ | assumption)); (conv => whnf))
            | ((with_reducible refine @And.intro (¬ (_ = _)) _ ?_ ?_); (· first | assumption | (with_reducible assumption)); (conv => whnf))
            | (refine hX _ _ _ _ _ _ ?_; (conv => whnf); fail_if_success show False)
            | (rw [t_si]; (conv => whnf))
            | (refine ⟨_, rfl, ?_⟩; (conv => whnf))
            | (refine ⟨_, _, rfl, ?_⟩; (conv => whnf))
            | (refine ⟨_, _, _, rfl, ?_⟩; (conv => whnf))
            | (refine ⟨_, _, _, _, rfl, ?_⟩; (conv => whnf))
            | (refine And.intro (fun c => ?_) (fun c => ?_) <;> (first | (exact absurd c (by decide +kernel)) | (conv => whnf)))
            | fail)
          all_goals clear hX hG hQ
          all_goals simp (disch := omega) only [xl_n, xl_m, nI_dec, nI_sb, xl_0, xl_1, tW_i, t_bn0, t_bn1, Classical.not_not, t_lt, nI_add, nI_1, pk_mul, nI_clamp, t_si, nI_eq, nI_leI, nM_ne, nM_ne, xm_set, xm_lv0, xm_psh] at *
          all_goals simpa [t_bit, *] using this
      repeat' (first
        | ((with_reducible refine @And.intro (vp_in _ _) _ ?_ ?_); (· (first | with_reducible assumption | ((with_reducible refine t_vin ?_); decide) | ((with_reducible refine vp_in_nI ?_ ?_) <;> first | omega | decide) | (simp (disch := omega) only [xl_n, xl_m, nI_dec, nI_sb, nI_add, pk_mul]; (with_reducible refine vp_in_nI ?_ ?_) <;> first | omega | decide))); (conv => whnf))
        | (refine And.intro (by first | with_reducible assumption | exact (show tL _ = _ from rfl) | decide) ?_; (conv => whnf))
        | ((with_reducible refine @And.intro (_ = _) _ ?_ ?_); (· rfl); (conv => whnf))
        | ((with_reducible refine @And.intro (@LE.le Nat _ _ _) _ ?_ ?_); (· (first | exact Nat.zero_le _ | exact Nat.le_of_ble_eq_true rfl | omega)); (conv => whnf))
        | ((with_reducible refine @And.intro (@LT.lt Nat _ _ _) _ ?_ ?_); (· omega); (conv => whnf))
        | ((with_reducible refine @And.intro (∃ _, _ = _) _ ?_ ?_); (· exact ⟨_, rfl⟩); (conv => whnf))
        | ((with_reducible refine @And.intro (_ ∨ _) _ ?_ ?_); (· (first | exact Or.inl rfl | exact Or.inr rfl | exact t_b01 _ | assumption)); (conv => whnf))
        | ((with_reducible refine @And.intro (¬ (_ = _)) _ ?_ ?_); (· first | assumption | (with_reducible assumption)); (conv => whnf))
        | (refine hX _ _ _ _ _ _ ?_; (conv => whnf); fail_if_success show False)
        | (rw [t_si]; (conv => whnf))
        | (refine ⟨_, rfl, ?_⟩; (conv => whnf))
        | (refine ⟨_, _, rfl, ?_⟩; (conv => whnf))
        | (refine ⟨_, _, _, rfl, ?_⟩; (conv => whnf))
        | (refine ⟨_, _, _, _, rfl, ?_⟩; (conv => whnf))
        | (rw [e1]; (conv => whnf))
        | (rw [e2]; (conv => whnf))
        | (refine And.intro (fun c => ?_) (fun c => ?_) <;> (first | (exact absurd c (by decide +kernel)) | (conv => whnf)))
        | fail)
      exact loop 0 (Nat.zero_le _)
    · repeat' (first
        | ((with_reducible refine @And.intro (vp_in _ _) _ ?_ ?_); (· (first | with_reducible assumption | ((with_reducible refine t_vin ?_); decide) | ((with_reducible refine vp_in_nI ?_ ?_) <;> first | omega | decide) | (simp (disch := omega) only [xl_n, xl_m, nI_dec, nI_sb, nI_add, pk_mul]; (with_reducible refine vp_in_nI ?_ ?_) <;> first | omega | decide))); (conv => whnf))
        | (refine And.intro (by first | with_reducible assumption | exact (show tL _ = _ from rfl) | decide) ?_; (conv => whnf))
        | ((with_reducible refine @And.intro (_ = _) _ ?_ ?_); (· rfl); (conv => whnf))
        | ((with_reducible refine @And.intro (@LE.le Nat _ _ _) _ ?_ ?_); (· (first | exact Nat.zero_le _ | exact Nat.le_of_ble_eq_true rfl | omega)); (conv => whnf))
        | ((with_reducible refine @And.intro (@LT.lt Nat _ _ _) _ ?_ ?_); (· omega); (conv => whnf))
        | ((with_reducible refine @And.intro (∃ _, _ = _) _ ?_ ?_); (· exact ⟨_, rfl⟩); (conv => whnf))
        | ((with_reducible refine @And.intro (_ ∨ _) _ ?_ ?_); (· (first | exact Or.inl rfl | exact Or.inr rfl | exact t_b01 _ | assumption)); (conv => whnf))
        | ((with_reducible refine @And.intro (¬ (_ = _)) _ ?_ ?_); (· first | assumption | (with_reducible assumption)); (conv => whnf))
        | (refine hX _ _ _ _ _ _ ?_; (conv => whnf); fail_if_success show False)
        | (rw [t_si]; (conv => whnf))
        | (refine ⟨_, rfl, ?_⟩; (conv => whnf))
        | (refine ⟨_, _, rfl, ?_⟩; (conv => whnf))
        | (refine ⟨_, _, _, rfl, ?_⟩; (conv => whnf))
        | (refine ⟨_, _, _, _, rfl, ?_⟩; (conv => whnf))
        | (rw [e1]; (conv => whnf))
        | (rw [e2]; (conv => whnf))
        | (refine And.intro (fun c => ?_) (fun c => ?_) <;> (first | (exact absurd c (by decide +kernel)) | (conv => whnf)))
        | fail)
      exact t_ref' hQ hg h01 (by simp [f2]) (by decide) rfl rfl
  · rw [q_dropped] at hQ
    repeat' (first
      | ((with_reducible refine @And.intro (vp_in _ _) _ ?_ ?_); (· (first | with_reducible assumption | ((with_reducible refine t_vin ?_); decide) | ((with_reducible refine vp_in_nI ?_ ?_) <;> first | omega | decide) | (simp (disch := omega) only [xl_n, xl_m, nI_dec, nI_sb, nI_add, pk_mul]; (with_reducible refine vp_in_nI ?_ ?_) <;> first | omega | decide))); (conv => whnf))
      | (refine And.intro (by first | with_reducible assumption | exact (show tL _ = _ from rfl) | decide) ?_; (conv => whnf))
      | ((with_reducible refine @And.intro (_ = _) _ ?_ ?_); (· rfl); (conv => whnf))
      | ((with_reducible refine @And.intro (@LE.le Nat _ _ _) _ ?_ ?_); (· (first | exact Nat.zero_le _ | exact Nat.le_of_ble_eq_true rfl | omega)); (conv => whnf))
      | ((with_reducible refine @And.intro (@LT.lt Nat _ _ _) _ ?_ ?_); (· omega); (conv => whnf))
      | ((with_reducible refine @And.intro (∃ _, _ = _) _ ?_ ?_); (· exact ⟨_, rfl⟩); (conv => whnf))
      | ((with_reducible refine @And.intro (_ ∨ _) _ ?_ ?_); (· (first | exact Or.inl rfl | exact Or.inr rfl | exact t_b01 _ | assumption)); (conv => whnf))
      | ((with_reducible refine @And.intro (¬ (_ = _)) _ ?_ ?_); (· first | assumption | (with_reducible assumption)); (conv => whnf))
      | (refine hX _ _ _ _ _ _ ?_; (conv => whnf); fail_if_success show False)
      | (rw [t_si]; (conv => whnf))
      | (refine ⟨_, rfl, ?_⟩; (conv => whnf))
      | (refine ⟨_, _, rfl, ?_⟩; (conv => whnf))
      | (refine ⟨_, _, _, rfl, ?_⟩; (conv => whnf))
      | (refine ⟨_, _, _, _, rfl, ?_⟩; (conv => whnf))
      | (rw [e1]; (conv => whnf))
      | (refine And.intro (fun c => ?_) (fun c => ?_) <;> (first | (exact absurd c (by decide +kernel)) | (conv => whnf)))
      | fail)
    exact t_ref' hQ hg h01 (by simp [f1]) (by decide) rfl rfl
theorem ct_X11_dropped {Iv : xI} (hI : xm_good Iv) : xm_Ct Iv yX11_dropped (ws_ yX11_dropped cX11_dropped 5 (some .int)) 3 0 0 S_X11_dropped := xm_enter (rt := 0) (init := false) (by decide +kernel) rfl (fun h => by cases h) (Or.inl ⟨rfl, rfl⟩) (oX11_dropped hI) body_X11_dropped
theorem cv_X11_dropped {Iv : xI} {own : String} {cc : ByteArray} {fr pc idx : Nat} (hI : xm_good Iv) (hdg : decode cc pc = .ok (.invokevirtual idx, 3)) (hl : xm_ml own idx yX11_dropped) (hfr : 3 < fr) : xm_CallOK Iv own cc fr pc (pc + 3) 3 0 0 (xm_this 8 S_X11_dropped) := xm_callV 8 hI (ct_X11_dropped hI) hdg hl q2513 q2514 q145 q2515 rfl rfl (by decide +kernel) hfr (by decide)
def g_bitsN (G : gG) (a n : Nat) : Int32 := t_fold n (fun i b => b ||| t_bit (gpup G a i)) (nI 0)
theorem g_bitsN_s {G : gG} {a n : Nat} : g_bitsN G a (n + 1) = g_bitsN G a n ||| t_bit (gpup G a n) := rfl
def g_bits (G : gG) (a : Nat) : Int32 := g_bitsN G a (gmany G a)
theorem tG_pup {I : tI} {a i : Nat} (hi : i < t_am I a) : gpup (tG I) a i = (I (150 + a) (2 + i)).toNatClampNeg := if_pos hi
theorem tG_pup' {I : tI} (hg : t_good I) {a i : Nat} (ha : a < t_a I) (hi : i < t_am I a) : gpup (tG I) a i < t_p I ∧ I (150 + a) (2 + i) = nI (gpup (tG I) a i) := by
  obtain ⟨p, hp, e⟩ := (hg.2.2.2.2.2.2.1 a ha).2.2 i hi
  have h8 := hg.1.2.2.2.1
  have e2 : gpup (tG I) a i = p := by rw [tG_pup hi, e, nI_clamp (by omega)]
  rw [e2]
  exact ⟨hp, e⟩
abbrev bX11_bitsOf_0 : List xE := [(.iconst 0, 1, 0, 0, 0), (.istore_n 2, 2, 0, 0, 0), (.iconst 0, 3, 0, 0, 0), (.istore_n 3, 4, 0, 0, 0)]
abbrev bX11_bitsOf_4 : List xE := [(.iload_n 3, 5, 0, 0, 0), (.aload_n 0, 6, 0, 0, 0), (.getfield 61, 9, 8, 24, 1), (.iload_n 1, 10, 0, 0, 0), (.aaload, 11, 0, 0, 0), (.iconst 1, 12, 0, 0, 0), (.iaload, 13, 0, 0, 0), (.if_icmp .ge 24, 16, 0, 37, 0), (.iload_n 2, 17, 0, 0, 0), (.iconst 1, 18, 0, 0, 0), (.aload_n 0, 19, 0, 0, 0), (.getfield 61, 22, 8, 24, 1), (.iload_n 1, 23, 0, 0, 0), (.aaload, 24, 0, 0, 0), (.iconst 2, 25, 0, 0, 0), (.iload_n 3, 26, 0, 0, 0), (.iadd, 27, 0, 0, 0), (.iaload, 28, 0, 0, 0), (.ishl, 29, 0, 0, 0), (.ior, 30, 0, 0, 0), (.istore_n 2, 31, 0, 0, 0), (.iinc 3 1, 34, 0, 0, 0), (.goto (-30), 37, 0, 4, 0)]
abbrev bX11_bitsOf_37 : List xE := [(.iload_n 2, 38, 0, 0, 0), (.ireturn, 39, 0, 0, 0)]
abbrev kX11_bitsOf : List (Nat × List xE) := [(0, bX11_bitsOf_0), (4, bX11_bitsOf_4), (37, bX11_bitsOf_37)]
abbrev lX11_bitsOf : List (Nat × Nat × Nat × xS) := []
theorem oX11_bitsOf_0 {Iv : xI} (hI : xm_good Iv)  : xm_okb Iv RX11 cX11_bitsOf false 1 lX11_bitsOf bX11_bitsOf_0 0 := xo_0 dX11_bitsOf_0 rfl trivial (xo_0 dX11_bitsOf_1 rfl trivial (xo_0 dX11_bitsOf_2 rfl trivial (xo_0 dX11_bitsOf_3 rfl trivial (xo_n))))
theorem oX11_bitsOf_4 {Iv : xI} (hI : xm_good Iv)  : xm_okb Iv RX11 cX11_bitsOf false 1 lX11_bitsOf bX11_bitsOf_4 4 := xo_0 dX11_bitsOf_4 rfl trivial (xo_0 dX11_bitsOf_5 rfl trivial (xo_1 dX11_bitsOf_6 rfl (xm_fg_of (Or.inl q1979) (by decide) rfl (by decide) rfl rfl (Or.inl rfl) rfl) (xo_0 dX11_bitsOf_9 rfl trivial (xo_0 dX11_bitsOf_10 rfl trivial (xo_0 dX11_bitsOf_11 rfl trivial (xo_0 dX11_bitsOf_12 rfl trivial (xo_0 dX11_bitsOf_13 rfl rfl (xo_0 dX11_bitsOf_16 rfl trivial (xo_0 dX11_bitsOf_17 rfl trivial (xo_0 dX11_bitsOf_18 rfl trivial (xo_1 dX11_bitsOf_19 rfl (xm_fg_of (Or.inl q1979) (by decide) rfl (by decide) rfl rfl (Or.inl rfl) rfl) (xo_0 dX11_bitsOf_22 rfl trivial (xo_0 dX11_bitsOf_23 rfl trivial (xo_0 dX11_bitsOf_24 rfl trivial (xo_0 dX11_bitsOf_25 rfl trivial (xo_0 dX11_bitsOf_26 rfl trivial (xo_0 dX11_bitsOf_27 rfl trivial (xo_0 dX11_bitsOf_28 rfl trivial (xo_0 dX11_bitsOf_29 rfl trivial (xo_0 dX11_bitsOf_30 rfl trivial (xo_0 dX11_bitsOf_31 rfl trivial (xo_0 dX11_bitsOf_34 rfl rfl (xo_n)))))))))))))))))))))))
theorem oX11_bitsOf_37 {Iv : xI} (hI : xm_good Iv)  : xm_okb Iv RX11 cX11_bitsOf false 1 lX11_bitsOf bX11_bitsOf_37 37 := xo_0 dX11_bitsOf_37 rfl trivial (xo_0 dX11_bitsOf_38 rfl trivial (xo_n))
theorem oX11_bitsOf {Iv : xI} (hI : xm_good Iv)  : ∀ q ∈ kX11_bitsOf, xm_okb Iv RX11 cX11_bitsOf false 1 lX11_bitsOf q.2 q.1 := by
  intro q hq
  simp only [List.mem_cons, List.not_mem_nil, or_false] at hq
  rcases hq with rfl | rfl | rfl
  · exact oX11_bitsOf_0 hI  
  · exact oX11_bitsOf_4 hI  
  · exact oX11_bitsOf_37 hI  
def S_X11_bitsOf : xS := tU fun as I Q => ∃ a, as = [.ref 0, .int (nI a)] ∧ t_good I ∧ a < t_a I ∧ Q (some (.int (g_bits (tG I) a))) I
theorem body_X11_bitsOf : xm_Body 4 0 0 0 [] lX11_bitsOf kX11_bitsOf S_X11_bitsOf := by
  intro X avs w Q QX hX0 hS
  have hG := xm_go [] hX0
  have hX := xm_go [4] hX0
  clear hX0
  obtain ⟨I, rfl, a, rfl, hg, ha, hQ⟩ := hS
  have hok := hg.1
  obtain ⟨-, -, -, h8, -, h6⟩ := id hok
  obtain ⟨hm, hm6, -⟩ := hg.2.2.2.2.2.2.1 a ha
  have loop : ∀ k, k ≤ t_am I a → X 4 [some (.ref 0), some (.int (nI a)), some (.int (g_bitsN (tG I) a k)), some (.int (nI k))] [] (tW I) 0 0 := by
    refine t_for fun k h1 ih => ?_
    refine hG _ _ _ _ _ _ ?_
    (conv => whnf)
    repeat' (first
      | ((with_reducible refine @And.intro (vp_in _ _) _ ?_ ?_); (· (first | with_reducible assumption | ((with_reducible refine t_vin ?_); decide) | ((with_reducible refine vp_in_nI ?_ ?_) <;> first | omega | decide) | (simp (disch := omega) only [xl_n, xl_m, nI_dec, nI_sb, nI_add, pk_mul]; (with_reducible refine vp_in_nI ?_ ?_) <;> first | omega | decide))); (conv => whnf))
      | (refine And.intro (by first | with_reducible assumption | exact (show tL _ = _ from rfl) | decide) ?_; (conv => whnf))
      | ((with_reducible refine @And.intro (_ = _) _ ?_ ?_); (· rfl); (conv => whnf))
      | ((with_reducible refine @And.intro (@LE.le Nat _ _ _) _ ?_ ?_); (· (first | exact Nat.zero_le _ | exact Nat.le_of_ble_eq_true rfl | omega)); (conv => whnf))
      | ((with_reducible refine @And.intro (@LT.lt Nat _ _ _) _ ?_ ?_); (· omega); (conv => whnf))
      | ((with_reducible refine @And.intro (∃ _, _ = _) _ ?_ ?_); (· exact ⟨_, rfl⟩); (conv => whnf))
      | ((with_reducible refine @And.intro (_ ∨ _) _ ?_ ?_); (· (first | exact Or.inl rfl | exact Or.inr rfl | exact t_b01 _ | assumption)); (conv => whnf))
      | ((with_reducible refine @And.intro (¬ (_ = _)) _ ?_ ?_); (· first | assumption | (with_reducible assumption)); (conv => whnf))
      | (refine hX _ _ _ _ _ _ ?_; (conv => whnf); fail_if_success show False)
      | (rw [t_si]; (conv => whnf))
      | (refine ⟨_, rfl, ?_⟩; (conv => whnf))
      | (refine ⟨_, _, rfl, ?_⟩; (conv => whnf))
      | (refine ⟨_, _, _, rfl, ?_⟩; (conv => whnf))
      | (refine ⟨_, _, _, _, rfl, ?_⟩; (conv => whnf))
      | (rw [t_l150 (by first | with_reducible assumption | omega | exact vp_lt (by assumption) | (rw [nI_clamp (by omega)]; omega))]; (conv => whnf))
      | fail)
    refine And.intro (fun c => ?_) (fun c => ?_) <;> (conv => whnf)
    · repeat' (first
        | ((with_reducible refine @And.intro (vp_in _ _) _ ?_ ?_); (· (first | with_reducible assumption | ((with_reducible refine t_vin ?_); decide) | ((with_reducible refine vp_in_nI ?_ ?_) <;> first | omega | decide) | (simp (disch := omega) only [xl_n, xl_m, nI_dec, nI_sb, nI_add, pk_mul]; (with_reducible refine vp_in_nI ?_ ?_) <;> first | omega | decide))); (conv => whnf))
        | (refine And.intro (by first | with_reducible assumption | exact (show tL _ = _ from rfl) | decide) ?_; (conv => whnf))
        | ((with_reducible refine @And.intro (_ = _) _ ?_ ?_); (· rfl); (conv => whnf))
        | ((with_reducible refine @And.intro (@LE.le Nat _ _ _) _ ?_ ?_); (· (first | exact Nat.zero_le _ | exact Nat.le_of_ble_eq_true rfl | omega)); (conv => whnf))
        | ((with_reducible refine @And.intro (@LT.lt Nat _ _ _) _ ?_ ?_); (· omega); (conv => whnf))
        | ((with_reducible refine @And.intro (∃ _, _ = _) _ ?_ ?_); (· exact ⟨_, rfl⟩); (conv => whnf))
        | ((with_reducible refine @And.intro (_ ∨ _) _ ?_ ?_); (· (first | exact Or.inl rfl | exact Or.inr rfl | exact t_b01 _ | assumption)); (conv => whnf))
        | ((with_reducible refine @And.intro (¬ (_ = _)) _ ?_ ?_); (· first | assumption | (with_reducible assumption)); (conv => whnf))
        | (refine hX _ _ _ _ _ _ ?_; (conv => whnf); fail_if_success show False)
        | (rw [t_si]; (conv => whnf))
        | (refine ⟨_, rfl, ?_⟩; (conv => whnf))
        | (refine ⟨_, _, rfl, ?_⟩; (conv => whnf))
        | (refine ⟨_, _, _, rfl, ?_⟩; (conv => whnf))
        | (refine ⟨_, _, _, _, rfl, ?_⟩; (conv => whnf))
        | fail)
      have hm' : (tW I).2.1 (150 + (nI a).toNatClampNeg) (Int32.ofInt 1).toNatClampNeg = nI (t_am I a) := by
        simp (disch := omega) only [xl_n, nI_clamp, tW_i, hm]
      have : k = t_am I a := Nat.le_antisymm h1 (t_kge hm' c (by omega) (by omega))
      subst this
      exact hQ
    · have hm' : (tW I).2.1 (150 + (nI a).toNatClampNeg) (Int32.ofInt 1).toNatClampNeg = nI (t_am I a) := by
        simp (disch := omega) only [xl_n, nI_clamp, tW_i, hm]
      have hk : k < t_am I a := t_klt hm' c (by omega)
      obtain ⟨q1, q2⟩ := tG_pup' hg ha hk
      have := ih (k + 1) (by omega) (by omega)
      rw [g_bitsN_s] at this
      clear ih
      repeat' (first
        | ((with_reducible refine @And.intro (vp_in _ _) _ ?_ ?_); (· (first | with_reducible assumption | ((with_reducible refine t_vin ?_); decide) | ((with_reducible refine vp_in_nI ?_ ?_) <;> first | omega | decide) | (simp (disch := omega) only [xl_n, xl_m, nI_dec, nI_sb, nI_add, pk_mul]; (with_reducible refine vp_in_nI ?_ ?_) <;> first | omega | decide))); (conv => whnf))
        | (refine And.intro (by first | with_reducible assumption | exact (show tL _ = _ from rfl) | decide) ?_; (conv => whnf))
        | ((with_reducible refine @And.intro (_ = _) _ ?_ ?_); (· rfl); (conv => whnf))
        | ((with_reducible refine @And.intro (@LE.le Nat _ _ _) _ ?_ ?_); (· (first | exact Nat.zero_le _ | exact Nat.le_of_ble_eq_true rfl | omega)); (conv => whnf))
        | ((with_reducible refine @And.intro (@LT.lt Nat _ _ _) _ ?_ ?_); (· omega); (conv => whnf))
        | ((with_reducible refine @And.intro (∃ _, _ = _) _ ?_ ?_); (· exact ⟨_, rfl⟩); (conv => whnf))
        | ((with_reducible refine @And.intro (_ ∨ _) _ ?_ ?_); (· (first | exact Or.inl rfl | exact Or.inr rfl | exact t_b01 _ | assumption)); (conv => whnf))
        | ((with_reducible refine @And.intro (¬ (_ = _)) _ ?_ ?_); (· first | assumption | (with_reducible assumption)); (conv => whnf))
        | (refine hX _ _ _ _ _ _ ?_; (conv => whnf); fail_if_success show False)
        | (rw [t_si]; (conv => whnf))
        | (refine ⟨_, rfl, ?_⟩; (conv => whnf))
        | (refine ⟨_, _, rfl, ?_⟩; (conv => whnf))
        | (refine ⟨_, _, _, rfl, ?_⟩; (conv => whnf))
        | (refine ⟨_, _, _, _, rfl, ?_⟩; (conv => whnf))
        | (rw [t_l150 (by first | with_reducible assumption | omega | exact vp_lt (by assumption) | (rw [nI_clamp (by omega)]; omega))]; (conv => whnf))
        | (refine And.intro (fun c => ?_) (fun c => ?_) <;> (first | (exact absurd c (by decide +kernel)) | (conv => whnf)))
        | fail)
      all_goals clear hX hG hQ
      all_goals simp (disch := omega) only [xl_n, xl_m, nI_dec, nI_sb, xl_0, xl_1, tW_i, t_bn0, t_bn1, Classical.not_not, t_lt, nI_add, nI_1, pk_mul, nI_clamp, t_si, nI_eq, nI_leI, nM_ne, nM_ne, xm_set, xm_lv0, xm_psh, q2] at *
      exact this
  refine ⟨rfl, ?_⟩
  repeat' (first
    | ((with_reducible refine @And.intro (vp_in _ _) _ ?_ ?_); (· (first | with_reducible assumption | ((with_reducible refine t_vin ?_); decide) | ((with_reducible refine vp_in_nI ?_ ?_) <;> first | omega | decide) | (simp (disch := omega) only [xl_n, xl_m, nI_dec, nI_sb, nI_add, pk_mul]; (with_reducible refine vp_in_nI ?_ ?_) <;> first | omega | decide))); (conv => whnf))
    | (refine And.intro (by first | with_reducible assumption | exact (show tL _ = _ from rfl) | decide) ?_; (conv => whnf))
    | ((with_reducible refine @And.intro (_ = _) _ ?_ ?_); (· rfl); (conv => whnf))
    | ((with_reducible refine @And.intro (@LE.le Nat _ _ _) _ ?_ ?_); (· (first | exact Nat.zero_le _ | exact Nat.le_of_ble_eq_true rfl | omega)); (conv => whnf))
    | ((with_reducible refine @And.intro (@LT.lt Nat _ _ _) _ ?_ ?_); (· omega); (conv => whnf))
    | ((with_reducible refine @And.intro (∃ _, _ = _) _ ?_ ?_); (· exact ⟨_, rfl⟩); (conv => whnf))
    | ((with_reducible refine @And.intro (_ ∨ _) _ ?_ ?_); (· (first | exact Or.inl rfl | exact Or.inr rfl | exact t_b01 _ | assumption)); (conv => whnf))
    | ((with_reducible refine @And.intro (¬ (_ = _)) _ ?_ ?_); (· first | assumption | (with_reducible assumption)); (conv => whnf))
    | (refine hX _ _ _ _ _ _ ?_; (conv => whnf); fail_if_success show False)
    | (rw [t_si]; (conv => whnf))
    | (refine ⟨_, rfl, ?_⟩; (conv => whnf))
    | (refine ⟨_, _, rfl, ?_⟩; (conv => whnf))
    | (refine ⟨_, _, _, rfl, ?_⟩; (conv => whnf))
    | (refine ⟨_, _, _, _, rfl, ?_⟩; (conv => whnf))
    | (refine And.intro (fun c => ?_) (fun c => ?_) <;> (first | (exact absurd c (by decide +kernel)) | (conv => whnf)))
    | fail)
  exact loop 0 (Nat.zero_le _)
theorem ct_X11_bitsOf {Iv : xI} (hI : xm_good Iv) : xm_Ct Iv yX11_bitsOf (ws_ yX11_bitsOf cX11_bitsOf 4 (some .int)) 1 0 0 S_X11_bitsOf := xm_enter (rt := 0) (init := false) (by decide +kernel) rfl (fun h => by cases h) (Or.inl ⟨rfl, rfl⟩) (oX11_bitsOf hI) body_X11_bitsOf
theorem cv_X11_bitsOf {Iv : xI} {own : String} {cc : ByteArray} {fr pc idx : Nat} (hI : xm_good Iv) (hdg : decode cc pc = .ok (.invokevirtual idx, 3)) (hl : xm_ml own idx yX11_bitsOf) (hfr : 1 < fr) : xm_CallOK Iv own cc fr pc (pc + 3) 2 0 0 (xm_this 8 S_X11_bitsOf) := xm_callV 8 hI (ct_X11_bitsOf hI) hdg hl q2337 qs90 q145 q2338 rfl rfl (by decide +kernel) hfr (by decide)
def g_needs (G : gG) (a n : Nat) : Int32 := t_sum n fun i => gneeds (gGK G) (gpup G a i)
def q_act (G : gG) (a b : Int32) : gR := g_ck G (g_isA G a) (nI 1) 0 (g_ck G (t_in b (nI 0) (nI 2)) (nI 2) 1 (g_says G (if b = nI 0 then glaugh G a.toNatClampNeg else if b = nI 1 then g_bits G a.toNatClampNeg else g_needs G a.toNatClampNeg (gmany G a.toNatClampNeg))))
abbrev bX11_act_0 : List xE := [(.aload_n 0, 1, 0, 0, 0), (.iconst 0, 2, 0, 0, 0), (.putfield 134, 5, 8, 0, 0), (.aload_n 0, 6, 0, 0, 0), (.aload_n 0, 7, 0, 0, 0), (.iload_n 1, 8, 0, 0, 0), (.invokevirtual 344, 11, 0, 0, 9), (.ifCond .ne 7, 14, 0, 18, 0), (.iconst 1, 15, 0, 0, 0), (.goto 4, 18, 0, 19, 0)]
abbrev bX11_act_18 : List xE := [(.iconst 0, 19, 0, 0, 0)]
abbrev bX11_act_19 : List xE := [(.iconst 1, 20, 0, 0, 0), (.iconst 0, 21, 0, 0, 0), (.invokevirtual 249, 24, 0, 1, 9), (.ifCond .ne 26, 27, 0, 50, 0), (.aload_n 0, 28, 0, 0, 0), (.iload_n 2, 29, 0, 0, 0), (.iconst 0, 30, 0, 0, 0), (.iconst 2, 31, 0, 0, 0), (.invokestatic 168, 34, 0, 2, 9), (.ifCond .ne 7, 37, 0, 41, 0), (.iconst 1, 38, 0, 0, 0), (.goto 4, 41, 0, 42, 0)]
abbrev bX11_act_41 : List xE := [(.iconst 0, 42, 0, 0, 0)]
abbrev bX11_act_42 : List xE := [(.iconst 2, 43, 0, 0, 0), (.iconst 1, 44, 0, 0, 0), (.invokevirtual 249, 47, 0, 1, 9), (.ifCond .eq 5, 50, 0, 52, 0)]
abbrev bX11_act_50 : List xE := [(.iconst 0, 51, 0, 0, 0), (.ireturn, 52, 0, 0, 0)]
abbrev bX11_act_52 : List xE := [(.iconst 0, 53, 0, 0, 0), (.istore_n 3, 54, 0, 0, 0), (.iconst 0, 55, 0, 0, 0), (.istore 4, 57, 0, 0, 0)]
abbrev bX11_act_57 : List xE := [(.iload 4, 59, 0, 0, 0), (.aload_n 0, 60, 0, 0, 0), (.getfield 61, 63, 8, 24, 1), (.iload_n 1, 64, 0, 0, 0), (.aaload, 65, 0, 0, 0), (.iconst 1, 66, 0, 0, 0), (.iaload, 67, 0, 0, 0), (.if_icmp .ge 30, 70, 0, 97, 0), (.iload_n 3, 71, 0, 0, 0), (.aload_n 0, 72, 0, 0, 0), (.getfield 55, 75, 8, 22, 1), (.aload_n 0, 76, 0, 0, 0), (.getfield 61, 79, 8, 24, 1), (.iload_n 1, 80, 0, 0, 0), (.aaload, 81, 0, 0, 0), (.iconst 2, 82, 0, 0, 0), (.iload 4, 84, 0, 0, 0), (.iadd, 85, 0, 0, 0), (.iaload, 86, 0, 0, 0), (.aaload, 87, 0, 0, 0), (.iconst 1, 88, 0, 0, 0), (.iaload, 89, 0, 0, 0), (.iadd, 90, 0, 0, 0), (.istore_n 3, 91, 0, 0, 0), (.iinc 4 1, 94, 0, 0, 0), (.goto (-37), 97, 0, 57, 0)]
abbrev bX11_act_97 : List xE := [(.iload_n 2, 98, 0, 0, 0), (.ifCond .ne 14, 101, 0, 112, 0), (.aload_n 0, 102, 0, 0, 0), (.getfield 61, 105, 8, 24, 1), (.iload_n 1, 106, 0, 0, 0), (.aaload, 107, 0, 0, 0), (.iconst 0, 108, 0, 0, 0), (.iaload, 109, 0, 0, 0), (.goto 17, 112, 0, 126, 0)]
abbrev bX11_act_112 : List xE := [(.iload_n 2, 113, 0, 0, 0), (.iconst 1, 114, 0, 0, 0), (.if_icmp .ne 11, 117, 0, 125, 0), (.aload_n 0, 118, 0, 0, 0), (.iload_n 1, 119, 0, 0, 0), (.invokevirtual 347, 122, 0, 3, 9), (.goto 4, 125, 0, 126, 0)]
abbrev bX11_act_125 : List xE := [(.iload_n 3, 126, 0, 0, 0)]
abbrev bX11_act_126 : List xE := [(.ireturn, 127, 0, 0, 0)]
abbrev kX11_act : List (Nat × List xE) := [(0, bX11_act_0), (18, bX11_act_18), (19, bX11_act_19), (41, bX11_act_41), (42, bX11_act_42), (50, bX11_act_50), (52, bX11_act_52), (57, bX11_act_57), (97, bX11_act_97), (112, bX11_act_112), (125, bX11_act_125), (126, bX11_act_126)]
abbrev lX11_act : List (Nat × Nat × Nat × xS) := [(2, 0, 0, xm_this 8 S_X11_isAct), (4, 0, 0, xm_this 8 S_X11_bad), (3, 0, 0, S_X11_in), (2, 0, 0, xm_this 8 S_X11_bitsOf)]
theorem oX11_act_0 {Iv : xI} (hI : xm_good Iv)  : xm_okb Iv RX11 cX11_act false 3 lX11_act bX11_act_0 0 := xo_0 dX11_act_0 rfl trivial (xo_0 dX11_act_1 rfl trivial (xo_0 dX11_act_2 rfl (xm_fp_of (xm_fg_of (Or.inl q1955) (by decide) rfl (by decide) rfl rfl (Or.inl rfl) rfl) (by decide) rfl (Or.inl ⟨rfl, rfl⟩) rfl) (xo_0 dX11_act_5 rfl trivial (xo_0 dX11_act_6 rfl trivial (xo_0 dX11_act_7 rfl trivial (xo_c rfl (cv_X11_isAct hI dX11_act_8 (Or.inl q2331) (by decide)) (xo_0 dX11_act_11 rfl rfl (xo_0 dX11_act_14 rfl trivial (xo_0 dX11_act_15 rfl rfl (xo_n))))))))))
theorem oX11_act_18 {Iv : xI} (hI : xm_good Iv)  : xm_okb Iv RX11 cX11_act false 3 lX11_act bX11_act_18 18 := xo_0 dX11_act_18 rfl trivial (xo_n)
theorem oX11_act_19 {Iv : xI} (hI : xm_good Iv)  : xm_okb Iv RX11 cX11_act false 3 lX11_act bX11_act_19 19 := xo_0 dX11_act_19 rfl trivial (xo_0 dX11_act_20 rfl trivial (xo_c rfl (cv_X11_bad hI dX11_act_21 (Or.inl q2137) (by decide)) (xo_0 dX11_act_24 rfl rfl (xo_0 dX11_act_27 rfl trivial (xo_0 dX11_act_28 rfl trivial (xo_0 dX11_act_29 rfl trivial (xo_0 dX11_act_30 rfl trivial (xo_c rfl (cv_X11_in hI dX11_act_31 (Or.inl q1942) (by decide)) (xo_0 dX11_act_34 rfl rfl (xo_0 dX11_act_37 rfl trivial (xo_0 dX11_act_38 rfl rfl (xo_n))))))))))))
theorem oX11_act_41 {Iv : xI} (hI : xm_good Iv)  : xm_okb Iv RX11 cX11_act false 3 lX11_act bX11_act_41 41 := xo_0 dX11_act_41 rfl trivial (xo_n)
theorem oX11_act_42 {Iv : xI} (hI : xm_good Iv)  : xm_okb Iv RX11 cX11_act false 3 lX11_act bX11_act_42 42 := xo_0 dX11_act_42 rfl trivial (xo_0 dX11_act_43 rfl trivial (xo_c rfl (cv_X11_bad hI dX11_act_44 (Or.inl q2137) (by decide)) (xo_0 dX11_act_47 rfl rfl (xo_n))))
theorem oX11_act_50 {Iv : xI} (hI : xm_good Iv)  : xm_okb Iv RX11 cX11_act false 3 lX11_act bX11_act_50 50 := xo_0 dX11_act_50 rfl trivial (xo_0 dX11_act_51 rfl trivial (xo_n))
theorem oX11_act_52 {Iv : xI} (hI : xm_good Iv)  : xm_okb Iv RX11 cX11_act false 3 lX11_act bX11_act_52 52 := xo_0 dX11_act_52 rfl trivial (xo_0 dX11_act_53 rfl trivial (xo_0 dX11_act_54 rfl trivial (xo_0 dX11_act_55 rfl trivial (xo_n))))
theorem oX11_act_57 {Iv : xI} (hI : xm_good Iv)  : xm_okb Iv RX11 cX11_act false 3 lX11_act bX11_act_57 57 := xo_0 dX11_act_57 rfl trivial (xo_0 dX11_act_59 rfl trivial (xo_1 dX11_act_60 rfl (xm_fg_of (Or.inl q1979) (by decide) rfl (by decide) rfl rfl (Or.inl rfl) rfl) (xo_0 dX11_act_63 rfl trivial (xo_0 dX11_act_64 rfl trivial (xo_0 dX11_act_65 rfl trivial (xo_0 dX11_act_66 rfl trivial (xo_0 dX11_act_67 rfl rfl (xo_0 dX11_act_70 rfl trivial (xo_0 dX11_act_71 rfl trivial (xo_1 dX11_act_72 rfl (xm_fg_of (Or.inl q1977) (by decide) rfl (by decide) rfl rfl (Or.inl rfl) rfl) (xo_0 dX11_act_75 rfl trivial (xo_1 dX11_act_76 rfl (xm_fg_of (Or.inl q1979) (by decide) rfl (by decide) rfl rfl (Or.inl rfl) rfl) (xo_0 dX11_act_79 rfl trivial (xo_0 dX11_act_80 rfl trivial (xo_0 dX11_act_81 rfl trivial (xo_0 dX11_act_82 rfl trivial (xo_0 dX11_act_84 rfl trivial (xo_0 dX11_act_85 rfl trivial (xo_0 dX11_act_86 rfl trivial (xo_0 dX11_act_87 rfl trivial (xo_0 dX11_act_88 rfl trivial (xo_0 dX11_act_89 rfl trivial (xo_0 dX11_act_90 rfl trivial (xo_0 dX11_act_91 rfl trivial (xo_0 dX11_act_94 rfl rfl (xo_n))))))))))))))))))))))))))
theorem oX11_act_97 {Iv : xI} (hI : xm_good Iv)  : xm_okb Iv RX11 cX11_act false 3 lX11_act bX11_act_97 97 := xo_0 dX11_act_97 rfl trivial (xo_0 dX11_act_98 rfl rfl (xo_0 dX11_act_101 rfl trivial (xo_1 dX11_act_102 rfl (xm_fg_of (Or.inl q1979) (by decide) rfl (by decide) rfl rfl (Or.inl rfl) rfl) (xo_0 dX11_act_105 rfl trivial (xo_0 dX11_act_106 rfl trivial (xo_0 dX11_act_107 rfl trivial (xo_0 dX11_act_108 rfl trivial (xo_0 dX11_act_109 rfl rfl (xo_n)))))))))
theorem oX11_act_112 {Iv : xI} (hI : xm_good Iv)  : xm_okb Iv RX11 cX11_act false 3 lX11_act bX11_act_112 112 := xo_0 dX11_act_112 rfl trivial (xo_0 dX11_act_113 rfl trivial (xo_0 dX11_act_114 rfl rfl (xo_0 dX11_act_117 rfl trivial (xo_0 dX11_act_118 rfl trivial (xo_c rfl (cv_X11_bitsOf hI dX11_act_119 (Or.inl q2335) (by decide)) (xo_0 dX11_act_122 rfl rfl (xo_n)))))))
theorem oX11_act_125 {Iv : xI} (hI : xm_good Iv)  : xm_okb Iv RX11 cX11_act false 3 lX11_act bX11_act_125 125 := xo_0 dX11_act_125 rfl trivial (xo_n)
theorem oX11_act_126 {Iv : xI} (hI : xm_good Iv)  : xm_okb Iv RX11 cX11_act false 3 lX11_act bX11_act_126 126 := xo_0 dX11_act_126 rfl trivial (xo_n)
theorem oX11_act {Iv : xI} (hI : xm_good Iv)  : ∀ q ∈ kX11_act, xm_okb Iv RX11 cX11_act false 3 lX11_act q.2 q.1 := by
  intro q hq
  simp only [List.mem_cons, List.not_mem_nil, or_false] at hq
  rcases hq with rfl | rfl | rfl | rfl | rfl | rfl | rfl | rfl | rfl | rfl | rfl | rfl
  · exact oX11_act_0 hI  
  · exact oX11_act_18 hI  
  · exact oX11_act_19 hI  
  · exact oX11_act_41 hI  
  · exact oX11_act_42 hI  
  · exact oX11_act_50 hI  
  · exact oX11_act_52 hI  
  · exact oX11_act_57 hI  
  · exact oX11_act_97 hI  
  · exact oX11_act_112 hI  
  · exact oX11_act_125 hI  
  · exact oX11_act_126 hI  
def S_X11_act : xS := tU fun as I Q => ∃ a b, as = [.ref 0, .int a, .int b] ∧ t_good I ∧ t_P Q (q_act (tG I) a b)
theorem body_X11_act : xm_Body 5 0 0 0 [] lX11_act kX11_act S_X11_act := by
  intro X avs w Q QX hX0 hS
  have hG := xm_go [] hX0
  have hX := xm_go [57] hX0
  clear hX0
  obtain ⟨I, rfl, a, b, rfl, hg, hQ⟩ := hS
  refine ⟨rfl, ?_⟩
  repeat' (first
    | ((with_reducible refine @And.intro (vp_in _ _) _ ?_ ?_); (· (first | with_reducible assumption | ((with_reducible refine t_vin ?_); decide) | ((with_reducible refine vp_in_nI ?_ ?_) <;> first | omega | decide) | (simp (disch := omega) only [xl_n, xl_m, nI_dec, nI_sb, nI_add, pk_mul]; (with_reducible refine vp_in_nI ?_ ?_) <;> first | omega | decide))); (conv => whnf))
    | (refine And.intro (by first | with_reducible assumption | exact (show tL _ = _ from rfl) | decide) ?_; (conv => whnf))
    | ((with_reducible refine @And.intro (_ = _) _ ?_ ?_); (· rfl); (conv => whnf))
    | ((with_reducible refine @And.intro (@LE.le Nat _ _ _) _ ?_ ?_); (· (first | exact Nat.zero_le _ | exact Nat.le_of_ble_eq_true rfl | omega)); (conv => whnf))
    | ((with_reducible refine @And.intro (@LT.lt Nat _ _ _) _ ?_ ?_); (· omega); (conv => whnf))
    | ((with_reducible refine @And.intro (∃ _, _ = _) _ ?_ ?_); (· exact ⟨_, rfl⟩); (conv => whnf))
    | ((with_reducible refine @And.intro (_ ∨ _) _ ?_ ?_); (· (first | exact Or.inl rfl | exact Or.inr rfl | exact t_b01 _ | assumption)); (conv => whnf))
    | ((with_reducible refine @And.intro (¬ (_ = _)) _ ?_ ?_); (· first | assumption | (with_reducible assumption)); (conv => whnf))
    | (refine hX _ _ _ _ _ _ ?_; (conv => whnf); fail_if_success show False)
    | fail)
  rw [t_si]
  obtain ⟨J, hJ, hg1, hG1, h01⟩ := t_pub hg
  rw [← hJ]
  rw [← hG1] at hQ
  clear hJ hG1 hg I
  have hg := hg1
  have hok := hg.1
  have hl := hg.2.1
  have h8 := hok.2.2.2.1
  have h9 := hok.2.1
  (conv => whnf)
  have h6 := hok.2.2.2.2.2
  rcases t_ac hg a with ⟨p, hp, rfl, e1, f1⟩ | ⟨e1, f1⟩
  · rw [q_act, f1, g_ck_t] at hQ
    obtain ⟨hm, hm6, -⟩ := hg.2.2.2.2.2.2.1 p hp
    rcases t_rc b 0 2 (L := Int32.ofInt 0) (H := Int32.ofInt 2) (by decide +kernel) (by decide +kernel) (by omega) (by omega) with ⟨n, -, hn15, rfl, e2, f2⟩ | ⟨e2, f2⟩
    · rw [f2, g_ck_t, nI_clamp (by omega)] at hQ
      have hm' : (tW J).2.1 (150 + (nI p).toNatClampNeg) (Int32.ofInt 1).toNatClampNeg = nI (t_am J p) := by
        simp (disch := omega) only [xl_n, nI_clamp, tW_i, hm]
      have loop : ∀ k, k ≤ t_am J p → X 57 [some (.ref 0), some (.int (nI p)), some (.int (nI n)), some (.int (g_needs (tG J) p k)), some (.int (nI k))] [] (tW J) 0 0 := by
        refine t_for fun k h1 ih => ?_
        refine hG _ _ _ _ _ _ ?_
        (conv => whnf)
        repeat' (first
          | ((with_reducible refine @And.intro (vp_in _ _) _ ?_ ?_); (· (first | with_reducible assumption | ((with_reducible refine t_vin ?_); decide) | ((with_reducible refine vp_in_nI ?_ ?_) <;> first | omega | decide) | (simp (disch := omega) only [xl_n, xl_m, nI_dec, nI_sb, nI_add, pk_mul]; (with_reducible refine vp_in_nI ?_ ?_) <;> first | omega | decide))); (conv => whnf))
          | (refine And.intro (by first | with_reducible assumption | exact (show tL _ = _ from rfl) | decide) ?_; (conv => whnf))
          | ((with_reducible refine @And.intro (_ = _) _ ?_ ?_); (· rfl); (conv => whnf))
          | ((with_reducible refine @And.intro (@LE.le Nat _ _ _) _ ?_ ?_); (· (first | exact Nat.zero_le _ | exact Nat.le_of_ble_eq_true rfl | omega)); (conv => whnf))
          | ((with_reducible refine @And.intro (@LT.lt Nat _ _ _) _ ?_ ?_); (· omega); (conv => whnf))
          | ((with_reducible refine @And.intro (∃ _, _ = _) _ ?_ ?_); (· exact ⟨_, rfl⟩); (conv => whnf))
          | ((with_reducible refine @And.intro (_ ∨ _) _ ?_ ?_); (· (first | exact Or.inl rfl | exact Or.inr rfl | exact t_b01 _ | assumption)); (conv => whnf))
          | ((with_reducible refine @And.intro (¬ (_ = _)) _ ?_ ?_); (· first | assumption | (with_reducible assumption)); (conv => whnf))
          | (refine hX _ _ _ _ _ _ ?_; (conv => whnf); fail_if_success show False)
          | (rw [t_si]; (conv => whnf))
          | (refine ⟨_, rfl, ?_⟩; (conv => whnf))
          | (refine ⟨_, _, rfl, ?_⟩; (conv => whnf))
          | (refine ⟨_, _, _, rfl, ?_⟩; (conv => whnf))
          | (refine ⟨_, _, _, _, rfl, ?_⟩; (conv => whnf))
          | (rw [t_l150 (by first | with_reducible assumption | omega | exact vp_lt (by assumption) | (rw [nI_clamp (by omega)]; omega))]; (conv => whnf))
          | fail)
        refine And.intro (fun c => ?_) (fun c => ?_) <;> (conv => whnf)
        · have : k = t_am J p := Nat.le_antisymm h1 (t_kge hm' c (by omega) (by omega))
          subst this
          have el : glaugh (tG J) p = J (150 + p) 0 := if_pos hp
          have em : gmany (tG J) p = t_am J p := rfl
          rw [el, em] at hQ
          repeat' (first
            | ((with_reducible refine @And.intro (vp_in _ _) _ ?_ ?_); (· (first | with_reducible assumption | ((with_reducible refine t_vin ?_); decide) | ((with_reducible refine vp_in_nI ?_ ?_) <;> first | omega | decide) | (simp (disch := omega) only [xl_n, xl_m, nI_dec, nI_sb, nI_add, pk_mul]; (with_reducible refine vp_in_nI ?_ ?_) <;> first | omega | decide))); (conv => whnf))
            | (refine And.intro (by first | with_reducible assumption | exact (show tL _ = _ from rfl) | decide) ?_; (conv => whnf))
            | ((with_reducible refine @And.intro (_ = _) _ ?_ ?_); (· rfl); (conv => whnf))
            | ((with_reducible refine @And.intro (@LE.le Nat _ _ _) _ ?_ ?_); (· (first | exact Nat.zero_le _ | exact Nat.le_of_ble_eq_true rfl | omega)); (conv => whnf))
            | ((with_reducible refine @And.intro (@LT.lt Nat _ _ _) _ ?_ ?_); (· omega); (conv => whnf))
            | ((with_reducible refine @And.intro (∃ _, _ = _) _ ?_ ?_); (· exact ⟨_, rfl⟩); (conv => whnf))
            | ((with_reducible refine @And.intro (_ ∨ _) _ ?_ ?_); (· (first | exact Or.inl rfl | exact Or.inr rfl | exact t_b01 _ | assumption)); (conv => whnf))
            | ((with_reducible refine @And.intro (¬ (_ = _)) _ ?_ ?_); (· first | assumption | (with_reducible assumption)); (conv => whnf))
            | (refine hX _ _ _ _ _ _ ?_; (conv => whnf); fail_if_success show False)
            | (rw [t_si]; (conv => whnf))
            | (refine ⟨_, rfl, ?_⟩; (conv => whnf))
            | (refine ⟨_, _, rfl, ?_⟩; (conv => whnf))
            | (refine ⟨_, _, _, rfl, ?_⟩; (conv => whnf))
            | (refine ⟨_, _, _, _, rfl, ?_⟩; (conv => whnf))
            | (rw [t_l150 (by first | with_reducible assumption | omega | exact vp_lt (by assumption) | (rw [nI_clamp (by omega)]; omega))]; (conv => whnf))
            | (refine And.intro (fun c => ?_) (fun c => ?_) <;> (first | (exact absurd c (by decide +kernel)) | (conv => whnf)))
            | fail)
          all_goals refine t_ask hQ hg t_sp.rf h01 ?_
          all_goals clear hX hG hQ ih
          all_goals simp (disch := omega) only [xl_n, xl_m, nI_dec, nI_sb, xl_0, xl_1, tW_i, t_bn0, t_bn1, Classical.not_not, t_lt, nI_add, nI_1, pk_mul, nI_clamp, t_si, nI_eq, nI_leI, nM_ne, nM_ne] at *
          all_goals simp_all
        · have hk : k < t_am J p := t_klt hm' c (by omega)
          obtain ⟨q1, q2⟩ := tG_pup' hg hp hk
          have := ih (k + 1) (by omega) (by omega)
          rw [g_needs, t_sum_s, show gneeds (gGK (tG J)) (gpup (tG J) p k) = J (130 + gpup (tG J) p k) 1 from tK_needs q1] at this
          clear ih
          repeat' (first
            | ((with_reducible refine @And.intro (vp_in _ _) _ ?_ ?_); (· (first | with_reducible assumption | ((with_reducible refine t_vin ?_); decide) | ((with_reducible refine vp_in_nI ?_ ?_) <;> first | omega | decide) | (simp (disch := omega) only [xl_n, xl_m, nI_dec, nI_sb, nI_add, pk_mul]; (with_reducible refine vp_in_nI ?_ ?_) <;> first | omega | decide))); (conv => whnf))
            | (refine And.intro (by first | with_reducible assumption | exact (show tL _ = _ from rfl) | decide) ?_; (conv => whnf))
            | ((with_reducible refine @And.intro (_ = _) _ ?_ ?_); (· rfl); (conv => whnf))
            | ((with_reducible refine @And.intro (@LE.le Nat _ _ _) _ ?_ ?_); (· (first | exact Nat.zero_le _ | exact Nat.le_of_ble_eq_true rfl | omega)); (conv => whnf))
            | ((with_reducible refine @And.intro (@LT.lt Nat _ _ _) _ ?_ ?_); (· omega); (conv => whnf))
            | ((with_reducible refine @And.intro (∃ _, _ = _) _ ?_ ?_); (· exact ⟨_, rfl⟩); (conv => whnf))
            | ((with_reducible refine @And.intro (_ ∨ _) _ ?_ ?_); (· (first | exact Or.inl rfl | exact Or.inr rfl | exact t_b01 _ | assumption)); (conv => whnf))
            | ((with_reducible refine @And.intro (¬ (_ = _)) _ ?_ ?_); (· first | assumption | (with_reducible assumption)); (conv => whnf))
            | (refine hX _ _ _ _ _ _ ?_; (conv => whnf); fail_if_success show False)
            | (rw [t_si]; (conv => whnf))
            | (refine ⟨_, rfl, ?_⟩; (conv => whnf))
            | (refine ⟨_, _, rfl, ?_⟩; (conv => whnf))
            | (refine ⟨_, _, _, rfl, ?_⟩; (conv => whnf))
            | (refine ⟨_, _, _, _, rfl, ?_⟩; (conv => whnf))
            | (rw [t_l150 (by first | with_reducible assumption | omega | exact vp_lt (by assumption) | (rw [nI_clamp (by omega)]; omega))]; (conv => whnf))
            | (refine And.intro (fun c => ?_) (fun c => ?_) <;> (first | (exact absurd c (by decide +kernel)) | (conv => whnf)))
            | fail)
          simp (disch := omega) only [xl_n, xl_m, nI_dec, nI_sb, xl_0, xl_1, tW_i, t_bn0, t_bn1, Classical.not_not, t_lt, nI_add, nI_1, pk_mul, nI_clamp, t_si, nI_eq, nI_leI, nM_ne, nM_ne, xm_u2_ne, xm_u2_at, reduceIte, tK_u, tA_u, Nat.reduceEqDiff, q2]
          repeat' (first
            | ((with_reducible refine @And.intro (vp_in _ _) _ ?_ ?_); (· (first | with_reducible assumption | ((with_reducible refine t_vin ?_); decide) | ((with_reducible refine vp_in_nI ?_ ?_) <;> first | omega | decide) | (simp (disch := omega) only [xl_n, xl_m, nI_dec, nI_sb, nI_add, pk_mul]; (with_reducible refine vp_in_nI ?_ ?_) <;> first | omega | decide))); (conv => whnf))
            | (refine And.intro (by first | with_reducible assumption | exact (show tL _ = _ from rfl) | decide) ?_; (conv => whnf))
            | ((with_reducible refine @And.intro (_ = _) _ ?_ ?_); (· rfl); (conv => whnf))
            | ((with_reducible refine @And.intro (@LE.le Nat _ _ _) _ ?_ ?_); (· (first | exact Nat.zero_le _ | exact Nat.le_of_ble_eq_true rfl | omega)); (conv => whnf))
            | ((with_reducible refine @And.intro (@LT.lt Nat _ _ _) _ ?_ ?_); (· omega); (conv => whnf))
            | ((with_reducible refine @And.intro (∃ _, _ = _) _ ?_ ?_); (· exact ⟨_, rfl⟩); (conv => whnf))
            | ((with_reducible refine @And.intro (_ ∨ _) _ ?_ ?_); (· (first | exact Or.inl rfl | exact Or.inr rfl | exact t_b01 _ | assumption)); (conv => whnf))
            | ((with_reducible refine @And.intro (¬ (_ = _)) _ ?_ ?_); (· first | assumption | (with_reducible assumption)); (conv => whnf))
            | (refine hX _ _ _ _ _ _ ?_; (conv => whnf); fail_if_success show False)
            | (rw [t_si]; (conv => whnf))
            | (refine ⟨_, rfl, ?_⟩; (conv => whnf))
            | (refine ⟨_, _, rfl, ?_⟩; (conv => whnf))
            | (refine ⟨_, _, _, rfl, ?_⟩; (conv => whnf))
            | (refine ⟨_, _, _, _, rfl, ?_⟩; (conv => whnf))
            | (rw [t_l130 (by first | with_reducible assumption | omega | exact vp_lt (by assumption) | (rw [nI_clamp (by omega)]; omega))]; (conv => whnf))
            | (refine And.intro (fun c => ?_) (fun c => ?_) <;> (first | (exact absurd c (by decide +kernel)) | (conv => whnf)))
            | fail)
          clear hX hG hQ
          simp (disch := omega) only [xl_n, xl_m, nI_dec, nI_sb, xl_0, xl_1, tW_i, t_bn0, t_bn1, Classical.not_not, t_lt, nI_add, nI_1, pk_mul, nI_clamp, t_si, nI_eq, nI_leI, nM_ne, nM_ne, xm_set, xm_lv0, xm_psh] at *
          exact this
      repeat' (first
        | ((with_reducible refine @And.intro (vp_in _ _) _ ?_ ?_); (· (first | with_reducible assumption | ((with_reducible refine t_vin ?_); decide) | ((with_reducible refine vp_in_nI ?_ ?_) <;> first | omega | decide) | (simp (disch := omega) only [xl_n, xl_m, nI_dec, nI_sb, nI_add, pk_mul]; (with_reducible refine vp_in_nI ?_ ?_) <;> first | omega | decide))); (conv => whnf))
        | (refine And.intro (by first | with_reducible assumption | exact (show tL _ = _ from rfl) | decide) ?_; (conv => whnf))
        | ((with_reducible refine @And.intro (_ = _) _ ?_ ?_); (· rfl); (conv => whnf))
        | ((with_reducible refine @And.intro (@LE.le Nat _ _ _) _ ?_ ?_); (· (first | exact Nat.zero_le _ | exact Nat.le_of_ble_eq_true rfl | omega)); (conv => whnf))
        | ((with_reducible refine @And.intro (@LT.lt Nat _ _ _) _ ?_ ?_); (· omega); (conv => whnf))
        | ((with_reducible refine @And.intro (∃ _, _ = _) _ ?_ ?_); (· exact ⟨_, rfl⟩); (conv => whnf))
        | ((with_reducible refine @And.intro (_ ∨ _) _ ?_ ?_); (· (first | exact Or.inl rfl | exact Or.inr rfl | exact t_b01 _ | assumption)); (conv => whnf))
        | ((with_reducible refine @And.intro (¬ (_ = _)) _ ?_ ?_); (· first | assumption | (with_reducible assumption)); (conv => whnf))
        | (refine hX _ _ _ _ _ _ ?_; (conv => whnf); fail_if_success show False)
        | (rw [t_si]; (conv => whnf))
        | (refine ⟨_, rfl, ?_⟩; (conv => whnf))
        | (refine ⟨_, _, rfl, ?_⟩; (conv => whnf))
        | (refine ⟨_, _, _, rfl, ?_⟩; (conv => whnf))
        | (refine ⟨_, _, _, _, rfl, ?_⟩; (conv => whnf))
        | (rw [e1]; (conv => whnf))
        | (rw [e2]; (conv => whnf))
        | (refine And.intro (fun c => ?_) (fun c => ?_) <;> (first | (exact absurd c (by decide +kernel)) | (conv => whnf)))
        | fail)
      exact loop 0 (Nat.zero_le _)
    · repeat' (first
        | ((with_reducible refine @And.intro (vp_in _ _) _ ?_ ?_); (· (first | with_reducible assumption | ((with_reducible refine t_vin ?_); decide) | ((with_reducible refine vp_in_nI ?_ ?_) <;> first | omega | decide) | (simp (disch := omega) only [xl_n, xl_m, nI_dec, nI_sb, nI_add, pk_mul]; (with_reducible refine vp_in_nI ?_ ?_) <;> first | omega | decide))); (conv => whnf))
        | (refine And.intro (by first | with_reducible assumption | exact (show tL _ = _ from rfl) | decide) ?_; (conv => whnf))
        | ((with_reducible refine @And.intro (_ = _) _ ?_ ?_); (· rfl); (conv => whnf))
        | ((with_reducible refine @And.intro (@LE.le Nat _ _ _) _ ?_ ?_); (· (first | exact Nat.zero_le _ | exact Nat.le_of_ble_eq_true rfl | omega)); (conv => whnf))
        | ((with_reducible refine @And.intro (@LT.lt Nat _ _ _) _ ?_ ?_); (· omega); (conv => whnf))
        | ((with_reducible refine @And.intro (∃ _, _ = _) _ ?_ ?_); (· exact ⟨_, rfl⟩); (conv => whnf))
        | ((with_reducible refine @And.intro (_ ∨ _) _ ?_ ?_); (· (first | exact Or.inl rfl | exact Or.inr rfl | exact t_b01 _ | assumption)); (conv => whnf))
        | ((with_reducible refine @And.intro (¬ (_ = _)) _ ?_ ?_); (· first | assumption | (with_reducible assumption)); (conv => whnf))
        | (refine hX _ _ _ _ _ _ ?_; (conv => whnf); fail_if_success show False)
        | (rw [t_si]; (conv => whnf))
        | (refine ⟨_, rfl, ?_⟩; (conv => whnf))
        | (refine ⟨_, _, rfl, ?_⟩; (conv => whnf))
        | (refine ⟨_, _, _, rfl, ?_⟩; (conv => whnf))
        | (refine ⟨_, _, _, _, rfl, ?_⟩; (conv => whnf))
        | (rw [e1]; (conv => whnf))
        | (rw [e2]; (conv => whnf))
        | (refine And.intro (fun c => ?_) (fun c => ?_) <;> (first | (exact absurd c (by decide +kernel)) | (conv => whnf)))
        | fail)
      exact t_ref' hQ hg h01 (by simp [f2]) (by decide) rfl rfl
  · rw [q_act] at hQ
    repeat' (first
      | ((with_reducible refine @And.intro (vp_in _ _) _ ?_ ?_); (· (first | with_reducible assumption | ((with_reducible refine t_vin ?_); decide) | ((with_reducible refine vp_in_nI ?_ ?_) <;> first | omega | decide) | (simp (disch := omega) only [xl_n, xl_m, nI_dec, nI_sb, nI_add, pk_mul]; (with_reducible refine vp_in_nI ?_ ?_) <;> first | omega | decide))); (conv => whnf))
      | (refine And.intro (by first | with_reducible assumption | exact (show tL _ = _ from rfl) | decide) ?_; (conv => whnf))
      | ((with_reducible refine @And.intro (_ = _) _ ?_ ?_); (· rfl); (conv => whnf))
      | ((with_reducible refine @And.intro (@LE.le Nat _ _ _) _ ?_ ?_); (· (first | exact Nat.zero_le _ | exact Nat.le_of_ble_eq_true rfl | omega)); (conv => whnf))
      | ((with_reducible refine @And.intro (@LT.lt Nat _ _ _) _ ?_ ?_); (· omega); (conv => whnf))
      | ((with_reducible refine @And.intro (∃ _, _ = _) _ ?_ ?_); (· exact ⟨_, rfl⟩); (conv => whnf))
      | ((with_reducible refine @And.intro (_ ∨ _) _ ?_ ?_); (· (first | exact Or.inl rfl | exact Or.inr rfl | exact t_b01 _ | assumption)); (conv => whnf))
      | ((with_reducible refine @And.intro (¬ (_ = _)) _ ?_ ?_); (· first | assumption | (with_reducible assumption)); (conv => whnf))
      | (refine hX _ _ _ _ _ _ ?_; (conv => whnf); fail_if_success show False)
      | (rw [t_si]; (conv => whnf))
      | (refine ⟨_, rfl, ?_⟩; (conv => whnf))
      | (refine ⟨_, _, rfl, ?_⟩; (conv => whnf))
      | (refine ⟨_, _, _, rfl, ?_⟩; (conv => whnf))
      | (refine ⟨_, _, _, _, rfl, ?_⟩; (conv => whnf))
      | (rw [e1]; (conv => whnf))
      | (refine And.intro (fun c => ?_) (fun c => ?_) <;> (first | (exact absurd c (by decide +kernel)) | (conv => whnf)))
      | fail)
    exact t_ref' hQ hg h01 (by simp [f1]) (by decide) rfl rfl
theorem ct_X11_act {Iv : xI} (hI : xm_good Iv) : xm_Ct Iv yX11_act (ws_ yX11_act cX11_act 5 (some .int)) 3 0 0 S_X11_act := xm_enter (rt := 0) (init := false) (by decide +kernel) rfl (fun h => by cases h) (Or.inl ⟨rfl, rfl⟩) (oX11_act hI) body_X11_act
theorem cv_X11_act {Iv : xI} {own : String} {cc : ByteArray} {fr pc idx : Nat} (hI : xm_good Iv) (hdg : decode cc pc = .ok (.invokevirtual idx, 3)) (hl : xm_ml own idx yX11_act) (hfr : 3 < fr) : xm_CallOK Iv own cc fr pc (pc + 3) 3 0 0 (xm_this 8 S_X11_act) := xm_callV 8 hI (ct_X11_act hI) hdg hl q2328 q2329 q145 q2330 rfl rfl (by decide +kernel) hfr (by decide)
