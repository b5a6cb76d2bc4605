/-! ===== the reference: claims, who is mute, slack, lies ===== -/
set_option maxRecDepth 100000
def g_claim (G : gG) (h : Nat) : Int32 := t_sum (gm (gGK G)) fun p => if (g_al (gGK G) (gnow G) h && t_has (gw (gnow G) p) h) = true then gs (gnow G) p else nI 0
abbrev bX11_claimOf_0 : List xE := [(.iconst 0, 1, 0, 0, 0), (.istore_n 2, 2, 0, 0, 0), (.iconst 0, 3, 0, 0, 0), (.istore_n 3, 4, 0, 0, 0)]
abbrev bX11_claimOf_4 : List xE := [(.iload_n 3, 5, 0, 0, 0), (.aload_n 0, 6, 0, 0, 0), (.getfield 23, 9, 8, 12, 1), (.iconst 1, 10, 0, 0, 0), (.iaload, 11, 0, 0, 0), (.if_icmp .ge 52, 14, 0, 63, 0), (.iload_n 2, 15, 0, 0, 0), (.aload_n 0, 16, 0, 0, 0), (.aload_n 0, 17, 0, 0, 0), (.getfield 91, 20, 8, 36, 1), (.iload_n 1, 21, 0, 0, 0), (.invokevirtual 320, 24, 0, 0, 9), (.ifCond .eq 30, 27, 0, 54, 0), (.aload_n 0, 28, 0, 0, 0), (.getfield 91, 31, 8, 36, 1), (.iconst 1, 32, 0, 0, 0), (.iload_n 3, 33, 0, 0, 0), (.iadd, 34, 0, 0, 0), (.iaload, 35, 0, 0, 0), (.iload_n 1, 36, 0, 0, 0), (.invokestatic 242, 39, 0, 1, 9), (.ifCond .eq 15, 42, 0, 54, 0), (.aload_n 0, 43, 0, 0, 0), (.getfield 91, 46, 8, 36, 1), (.bipush 9, 48, 0, 0, 0), (.iload_n 3, 49, 0, 0, 0), (.iadd, 50, 0, 0, 0), (.iaload, 51, 0, 0, 0), (.goto 4, 54, 0, 55, 0)]
abbrev bX11_claimOf_54 : List xE := [(.iconst 0, 55, 0, 0, 0)]
abbrev bX11_claimOf_55 : List xE := [(.iadd, 56, 0, 0, 0), (.istore_n 2, 57, 0, 0, 0), (.iinc 3 1, 60, 0, 0, 0), (.goto (-56), 63, 0, 4, 0)]
abbrev bX11_claimOf_63 : List xE := [(.iload_n 2, 64, 0, 0, 0), (.ireturn, 65, 0, 0, 0)]
abbrev kX11_claimOf : List (Nat × List xE) := [(0, bX11_claimOf_0), (4, bX11_claimOf_4), (54, bX11_claimOf_54), (55, bX11_claimOf_55), (63, bX11_claimOf_63)]
abbrev lX11_claimOf : List (Nat × Nat × Nat × xS) := [(3, 0, 0, xm_this 8 S_X11_isAlive), (2, 0, 0, S_X11_has)]
theorem oX11_claimOf_0 {Iv : xI} (hI : xm_good Iv)  : xm_okb Iv RX11 cX11_claimOf false 3 lX11_claimOf bX11_claimOf_0 0 := xo_0 dX11_claimOf_0 rfl trivial (xo_0 dX11_claimOf_1 rfl trivial (xo_0 dX11_claimOf_2 rfl trivial (xo_0 dX11_claimOf_3 rfl trivial (xo_n))))
theorem oX11_claimOf_4 {Iv : xI} (hI : xm_good Iv)  : xm_okb Iv RX11 cX11_claimOf false 3 lX11_claimOf bX11_claimOf_4 4 := xo_0 dX11_claimOf_4 rfl trivial (xo_0 dX11_claimOf_5 rfl trivial (xo_1 dX11_claimOf_6 rfl (xm_fg_of (Or.inl q1967) (by decide) rfl (by decide) rfl rfl (Or.inl rfl) rfl) (xo_0 dX11_claimOf_9 rfl trivial (xo_0 dX11_claimOf_10 rfl trivial (xo_0 dX11_claimOf_11 rfl rfl (xo_0 dX11_claimOf_14 rfl trivial (xo_0 dX11_claimOf_15 rfl trivial (xo_0 dX11_claimOf_16 rfl trivial (xo_1 dX11_claimOf_17 rfl (xm_fg_of (Or.inl q1991) (by decide) rfl (by decide) rfl rfl (Or.inl rfl) rfl) (xo_0 dX11_claimOf_20 rfl trivial (xo_c rfl (cv_X11_isAlive hI dX11_claimOf_21 (Or.inl q2292) (by decide)) (xo_0 dX11_claimOf_24 rfl rfl (xo_0 dX11_claimOf_27 rfl trivial (xo_1 dX11_claimOf_28 rfl (xm_fg_of (Or.inl q1991) (by decide) rfl (by decide) rfl rfl (Or.inl rfl) rfl) (xo_0 dX11_claimOf_31 rfl trivial (xo_0 dX11_claimOf_32 rfl trivial (xo_0 dX11_claimOf_33 rfl trivial (xo_0 dX11_claimOf_34 rfl trivial (xo_0 dX11_claimOf_35 rfl trivial (xo_c rfl (cv_X11_has hI dX11_claimOf_36 (Or.inl q1945) (by decide)) (xo_0 dX11_claimOf_39 rfl rfl (xo_0 dX11_claimOf_42 rfl trivial (xo_1 dX11_claimOf_43 rfl (xm_fg_of (Or.inl q1991) (by decide) rfl (by decide) rfl rfl (Or.inl rfl) rfl) (xo_0 dX11_claimOf_46 rfl (xo_bipush (by decide +kernel)) (xo_0 dX11_claimOf_48 rfl trivial (xo_0 dX11_claimOf_49 rfl trivial (xo_0 dX11_claimOf_50 rfl trivial (xo_0 dX11_claimOf_51 rfl rfl (xo_n)))))))))))))))))))))))))))))
theorem oX11_claimOf_54 {Iv : xI} (hI : xm_good Iv)  : xm_okb Iv RX11 cX11_claimOf false 3 lX11_claimOf bX11_claimOf_54 54 := xo_0 dX11_claimOf_54 rfl trivial (xo_n)
theorem oX11_claimOf_55 {Iv : xI} (hI : xm_good Iv)  : xm_okb Iv RX11 cX11_claimOf false 3 lX11_claimOf bX11_claimOf_55 55 := xo_0 dX11_claimOf_55 rfl trivial (xo_0 dX11_claimOf_56 rfl trivial (xo_0 dX11_claimOf_57 rfl trivial (xo_0 dX11_claimOf_60 rfl rfl (xo_n))))
theorem oX11_claimOf_63 {Iv : xI} (hI : xm_good Iv)  : xm_okb Iv RX11 cX11_claimOf false 3 lX11_claimOf bX11_claimOf_63 63 := xo_0 dX11_claimOf_63 rfl trivial (xo_0 dX11_claimOf_64 rfl trivial (xo_n))
theorem oX11_claimOf {Iv : xI} (hI : xm_good Iv)  : ∀ q ∈ kX11_claimOf, xm_okb Iv RX11 cX11_claimOf false 3 lX11_claimOf q.2 q.1 := by
  intro q hq
  simp only [List.mem_cons, List.not_mem_nil, or_false] at hq
  rcases hq with rfl | rfl | rfl | rfl | rfl
  · exact oX11_claimOf_0 hI  
  · exact oX11_claimOf_4 hI  
  · exact oX11_claimOf_54 hI  
  · exact oX11_claimOf_55 hI  
  · exact oX11_claimOf_63 hI  
def S_X11_claimOf : xS := tU fun as I Q => ∃ h, as = [.ref 0, .int (nI h)] ∧ t_good I ∧ h < t_h I ∧ Q (some (.int (g_claim (tG I) h))) I
theorem body_X11_claimOf : xm_Body 4 0 0 0 [] lX11_claimOf kX11_claimOf S_X11_claimOf := by
  intro X avs w Q QX hX0 hS
  have hG := xm_go [] hX0
  have hX := xm_go [4] hX0
  clear hX0
  obtain ⟨I, rfl, h, rfl, hg, hh, hQ⟩ := hS
  have hok := hg.1
  obtain ⟨hn, h9, hm, h8, -⟩ := id hok
  have loop : ∀ k, k ≤ t_p I → X 4 [some (.ref 0), some (.int (nI h)), some (.int (t_sum k fun p => if (g_al (tK I) (tA I 36) h && t_has (gw (tA I 36) p) h) = true then gs (tA I 36) p else nI 0)), some (.int (nI k))] [] (tW I) 0 0 := by
    refine t_for fun k h1 ih => ?_
    refine hG _ _ _ _ _ _ ?_
    (conv => whnf)
    repeat' (first
      | ((with_reducible refine @And.intro (vp_in _ _) _ ?_ ?_); (· (first | with_reducible assumption | ((with_reducible refine t_vin ?_); decide) | ((with_reducible refine vp_in_nI ?_ ?_) <;> first | omega | decide) | (simp (disch := omega) only [xl_n, xl_m, nI_dec, nI_sb, nI_add, pk_mul]; (with_reducible refine vp_in_nI ?_ ?_) <;> first | omega | decide))); (conv => whnf))
      | (refine And.intro (by first | with_reducible assumption | exact (show tL _ = _ from rfl) | decide) ?_; (conv => whnf))
      | ((with_reducible refine @And.intro (_ = _) _ ?_ ?_); (· rfl); (conv => whnf))
      | ((with_reducible refine @And.intro (@LE.le Nat _ _ _) _ ?_ ?_); (· (first | exact Nat.zero_le _ | exact Nat.le_of_ble_eq_true rfl | omega)); (conv => whnf))
      | ((with_reducible refine @And.intro (@LT.lt Nat _ _ _) _ ?_ ?_); (· omega); (conv => whnf))
      | ((with_reducible refine @And.intro (∃ _, _ = _) _ ?_ ?_); (· exact ⟨_, rfl⟩); (conv => whnf))
      | ((with_reducible refine @And.intro (_ ∨ _) _ ?_ ?_); (· (first | exact Or.inl rfl | exact Or.inr rfl | exact t_b01 _ | assumption)); (conv => whnf))
      | ((with_reducible refine @And.intro (¬ (_ = _)) _ ?_ ?_); (· first | assumption | (with_reducible assumption)); (conv => whnf))
      | (refine hX _ _ _ _ _ _ ?_; (conv => whnf); fail_if_success show False)
      | (rw [t_si]; (conv => whnf))
      | (refine ⟨_, rfl, ?_⟩; (conv => whnf))
      | (refine ⟨_, _, rfl, ?_⟩; (conv => whnf))
      | (refine ⟨_, _, _, rfl, ?_⟩; (conv => whnf))
      | (refine ⟨_, _, _, _, rfl, ?_⟩; (conv => whnf))
      | fail)
    refine And.intro (fun c => ?_) (fun c => ?_) <;> (conv => whnf)
    · repeat' (first
        | ((with_reducible refine @And.intro (vp_in _ _) _ ?_ ?_); (· (first | with_reducible assumption | ((with_reducible refine t_vin ?_); decide) | ((with_reducible refine vp_in_nI ?_ ?_) <;> first | omega | decide) | (simp (disch := omega) only [xl_n, xl_m, nI_dec, nI_sb, nI_add, pk_mul]; (with_reducible refine vp_in_nI ?_ ?_) <;> first | omega | decide))); (conv => whnf))
        | (refine And.intro (by first | with_reducible assumption | exact (show tL _ = _ from rfl) | decide) ?_; (conv => whnf))
        | ((with_reducible refine @And.intro (_ = _) _ ?_ ?_); (· rfl); (conv => whnf))
        | ((with_reducible refine @And.intro (@LE.le Nat _ _ _) _ ?_ ?_); (· (first | exact Nat.zero_le _ | exact Nat.le_of_ble_eq_true rfl | omega)); (conv => whnf))
        | ((with_reducible refine @And.intro (@LT.lt Nat _ _ _) _ ?_ ?_); (· omega); (conv => whnf))
        | ((with_reducible refine @And.intro (∃ _, _ = _) _ ?_ ?_); (· exact ⟨_, rfl⟩); (conv => whnf))
        | ((with_reducible refine @And.intro (_ ∨ _) _ ?_ ?_); (· (first | exact Or.inl rfl | exact Or.inr rfl | exact t_b01 _ | assumption)); (conv => whnf))
        | ((with_reducible refine @And.intro (¬ (_ = _)) _ ?_ ?_); (· first | assumption | (with_reducible assumption)); (conv => whnf))
        | (refine hX _ _ _ _ _ _ ?_; (conv => whnf); fail_if_success show False)
        | (rw [t_si]; (conv => whnf))
        | (refine ⟨_, rfl, ?_⟩; (conv => whnf))
        | (refine ⟨_, _, rfl, ?_⟩; (conv => whnf))
        | (refine ⟨_, _, _, rfl, ?_⟩; (conv => whnf))
        | (refine ⟨_, _, _, _, rfl, ?_⟩; (conv => whnf))
        | fail)
      have : k = t_p I := Nat.le_antisymm h1 (t_kge hm c (by omega) (by omega))
      subst this
      exact hQ
    · have hk : k < t_p I := t_klt hm c (by omega)
      have := ih (k + 1) (by omega) (by omega)
      rw [t_sum_s, tA_gw (by omega), tA_gs (by omega)] at this
      clear ih
      repeat' (first
        | ((with_reducible refine @And.intro (vp_in _ _) _ ?_ ?_); (· (first | with_reducible assumption | ((with_reducible refine t_vin ?_); decide) | ((with_reducible refine vp_in_nI ?_ ?_) <;> first | omega | decide) | (simp (disch := omega) only [xl_n, xl_m, nI_dec, nI_sb, nI_add, pk_mul]; (with_reducible refine vp_in_nI ?_ ?_) <;> first | omega | decide))); (conv => whnf))
        | (refine And.intro (by first | with_reducible assumption | exact (show tL _ = _ from rfl) | decide) ?_; (conv => whnf))
        | ((with_reducible refine @And.intro (_ = _) _ ?_ ?_); (· rfl); (conv => whnf))
        | ((with_reducible refine @And.intro (@LE.le Nat _ _ _) _ ?_ ?_); (· (first | exact Nat.zero_le _ | exact Nat.le_of_ble_eq_true rfl | omega)); (conv => whnf))
        | ((with_reducible refine @And.intro (@LT.lt Nat _ _ _) _ ?_ ?_); (· omega); (conv => whnf))
        | ((with_reducible refine @And.intro (∃ _, _ = _) _ ?_ ?_); (· exact ⟨_, rfl⟩); (conv => whnf))
        | ((with_reducible refine @And.intro (_ ∨ _) _ ?_ ?_); (· (first | exact Or.inl rfl | exact Or.inr rfl | exact t_b01 _ | assumption)); (conv => whnf))
        | ((with_reducible refine @And.intro (¬ (_ = _)) _ ?_ ?_); (· first | assumption | (with_reducible assumption)); (conv => whnf))
        | (refine hX _ _ _ _ _ _ ?_; (conv => whnf); fail_if_success show False)
        | (rw [t_si]; (conv => whnf))
        | (refine ⟨_, rfl, ?_⟩; (conv => whnf))
        | (refine ⟨_, _, rfl, ?_⟩; (conv => whnf))
        | (refine ⟨_, _, _, rfl, ?_⟩; (conv => whnf))
        | (refine ⟨_, _, _, _, rfl, ?_⟩; (conv => whnf))
        | (refine And.intro (fun c => ?_) (fun c => ?_) <;> (first | (exact absurd c (by decide +kernel)) | (conv => whnf)))
        | fail)
      all_goals clear hX hG hQ
      all_goals simp (disch := omega) only [xl_n, xl_m, nI_dec, nI_sb, xl_0, xl_1, tW_i, t_bn0, t_bn1, Classical.not_not, t_lt, nI_add, nI_1, pk_mul, nI_clamp, t_si, nI_eq, nI_leI, nM_ne, nM_ne, xm_set, xm_lv0, xm_psh] at *
      all_goals simpa [*] using this
  refine ⟨rfl, ?_⟩
  repeat' (first
    | ((with_reducible refine @And.intro (vp_in _ _) _ ?_ ?_); (· (first | with_reducible assumption | ((with_reducible refine t_vin ?_); decide) | ((with_reducible refine vp_in_nI ?_ ?_) <;> first | omega | decide) | (simp (disch := omega) only [xl_n, xl_m, nI_dec, nI_sb, nI_add, pk_mul]; (with_reducible refine vp_in_nI ?_ ?_) <;> first | omega | decide))); (conv => whnf))
    | (refine And.intro (by first | with_reducible assumption | exact (show tL _ = _ from rfl) | decide) ?_; (conv => whnf))
    | ((with_reducible refine @And.intro (_ = _) _ ?_ ?_); (· rfl); (conv => whnf))
    | ((with_reducible refine @And.intro (@LE.le Nat _ _ _) _ ?_ ?_); (· (first | exact Nat.zero_le _ | exact Nat.le_of_ble_eq_true rfl | omega)); (conv => whnf))
    | ((with_reducible refine @And.intro (@LT.lt Nat _ _ _) _ ?_ ?_); (· omega); (conv => whnf))
    | ((with_reducible refine @And.intro (∃ _, _ = _) _ ?_ ?_); (· exact ⟨_, rfl⟩); (conv => whnf))
    | ((with_reducible refine @And.intro (_ ∨ _) _ ?_ ?_); (· (first | exact Or.inl rfl | exact Or.inr rfl | exact t_b01 _ | assumption)); (conv => whnf))
    | ((with_reducible refine @And.intro (¬ (_ = _)) _ ?_ ?_); (· first | assumption | (with_reducible assumption)); (conv => whnf))
    | (refine hX _ _ _ _ _ _ ?_; (conv => whnf); fail_if_success show False)
    | (rw [t_si]; (conv => whnf))
    | (refine ⟨_, rfl, ?_⟩; (conv => whnf))
    | (refine ⟨_, _, rfl, ?_⟩; (conv => whnf))
    | (refine ⟨_, _, _, rfl, ?_⟩; (conv => whnf))
    | (refine ⟨_, _, _, _, rfl, ?_⟩; (conv => whnf))
    | (refine And.intro (fun c => ?_) (fun c => ?_) <;> (first | (exact absurd c (by decide +kernel)) | (conv => whnf)))
    | fail)
  exact loop 0 (Nat.zero_le _)
theorem ct_X11_claimOf {Iv : xI} (hI : xm_good Iv) : xm_Ct Iv yX11_claimOf (ws_ yX11_claimOf cX11_claimOf 4 (some .int)) 3 0 0 S_X11_claimOf := xm_enter (rt := 0) (init := false) (by decide +kernel) rfl (fun h => by cases h) (Or.inl ⟨rfl, rfl⟩) (oX11_claimOf hI) body_X11_claimOf
theorem cv_X11_claimOf {Iv : xI} {own : String} {cc : ByteArray} {fr pc idx : Nat} (hI : xm_good Iv) (hdg : decode cc pc = .ok (.invokevirtual idx, 3)) (hl : xm_ml own idx yX11_claimOf) (hfr : 3 < fr) : xm_CallOK Iv own cc fr pc (pc + 3) 2 0 0 (xm_this 8 S_X11_claimOf) := xm_callV 8 hI (ct_X11_claimOf hI) hdg hl q2562 qs112 q145 q2563 rfl rfl (by decide +kernel) hfr (by decide)
def g_claims (G : gG) (b : Int32) : Int32 := t_sum (gn (gGK G)) fun h => t_less b (g_claim G h)
abbrev bX11_claimsTo_0 : List xE := [(.iconst 0, 1, 0, 0, 0), (.istore_n 2, 2, 0, 0, 0), (.iconst 0, 3, 0, 0, 0), (.istore_n 3, 4, 0, 0, 0)]
abbrev bX11_claimsTo_4 : List xE := [(.iload_n 3, 5, 0, 0, 0), (.aload_n 0, 6, 0, 0, 0), (.getfield 23, 9, 8, 12, 1), (.iconst 0, 10, 0, 0, 0), (.iaload, 11, 0, 0, 0), (.if_icmp .ge 21, 14, 0, 32, 0), (.iload_n 2, 15, 0, 0, 0), (.iload_n 1, 16, 0, 0, 0), (.aload_n 0, 17, 0, 0, 0), (.iload_n 3, 18, 0, 0, 0), (.invokevirtual 433, 21, 0, 0, 9), (.invokestatic 229, 24, 0, 1, 9), (.iadd, 25, 0, 0, 0), (.istore_n 2, 26, 0, 0, 0), (.iinc 3 1, 29, 0, 0, 0), (.goto (-25), 32, 0, 4, 0)]
abbrev bX11_claimsTo_32 : List xE := [(.iload_n 2, 33, 0, 0, 0), (.ireturn, 34, 0, 0, 0)]
abbrev kX11_claimsTo : List (Nat × List xE) := [(0, bX11_claimsTo_0), (4, bX11_claimsTo_4), (32, bX11_claimsTo_32)]
abbrev lX11_claimsTo : List (Nat × Nat × Nat × xS) := [(2, 0, 0, xm_this 8 S_X11_claimOf), (2, 0, 0, S_X11_less)]
theorem oX11_claimsTo_0 {Iv : xI} (hI : xm_good Iv)  : xm_okb Iv RX11 cX11_claimsTo false 4 lX11_claimsTo bX11_claimsTo_0 0 := xo_0 dX11_claimsTo_0 rfl trivial (xo_0 dX11_claimsTo_1 rfl trivial (xo_0 dX11_claimsTo_2 rfl trivial (xo_0 dX11_claimsTo_3 rfl trivial (xo_n))))
theorem oX11_claimsTo_4 {Iv : xI} (hI : xm_good Iv)  : xm_okb Iv RX11 cX11_claimsTo false 4 lX11_claimsTo bX11_claimsTo_4 4 := xo_0 dX11_claimsTo_4 rfl trivial (xo_0 dX11_claimsTo_5 rfl trivial (xo_1 dX11_claimsTo_6 rfl (xm_fg_of (Or.inl q1967) (by decide) rfl (by decide) rfl rfl (Or.inl rfl) rfl) (xo_0 dX11_claimsTo_9 rfl trivial (xo_0 dX11_claimsTo_10 rfl trivial (xo_0 dX11_claimsTo_11 rfl rfl (xo_0 dX11_claimsTo_14 rfl trivial (xo_0 dX11_claimsTo_15 rfl trivial (xo_0 dX11_claimsTo_16 rfl trivial (xo_0 dX11_claimsTo_17 rfl trivial (xo_c rfl (cv_X11_claimOf hI dX11_claimsTo_18 (Or.inl q2560) (by decide)) (xo_c rfl (cv_X11_less hI dX11_claimsTo_21 (Or.inl q2229) (by decide)) (xo_0 dX11_claimsTo_24 rfl trivial (xo_0 dX11_claimsTo_25 rfl trivial (xo_0 dX11_claimsTo_26 rfl trivial (xo_0 dX11_claimsTo_29 rfl rfl (xo_n))))))))))))))))
theorem oX11_claimsTo_32 {Iv : xI} (hI : xm_good Iv)  : xm_okb Iv RX11 cX11_claimsTo false 4 lX11_claimsTo bX11_claimsTo_32 32 := xo_0 dX11_claimsTo_32 rfl trivial (xo_0 dX11_claimsTo_33 rfl trivial (xo_n))
theorem oX11_claimsTo {Iv : xI} (hI : xm_good Iv)  : ∀ q ∈ kX11_claimsTo, xm_okb Iv RX11 cX11_claimsTo false 4 lX11_claimsTo q.2 q.1 := by
  intro q hq
  simp only [List.mem_cons, List.not_mem_nil, or_false] at hq
  rcases hq with rfl | rfl | rfl
  · exact oX11_claimsTo_0 hI  
  · exact oX11_claimsTo_4 hI  
  · exact oX11_claimsTo_32 hI  
def S_X11_claimsTo : xS := tU fun as I Q => ∃ b, as = [.ref 0, .int b] ∧ t_good I ∧ Q (some (.int (g_claims (tG I) b))) I
theorem body_X11_claimsTo : xm_Body 4 0 0 0 [] lX11_claimsTo kX11_claimsTo S_X11_claimsTo := by
  intro X avs w Q QX hX0 hS
  have hG := xm_go [] hX0
  have hX := xm_go [4] hX0
  clear hX0
  obtain ⟨I, rfl, b, rfl, hg, hQ⟩ := hS
  obtain ⟨hn, h9, hm, h8, -⟩ := id hg.1
  have loop : ∀ k, k ≤ t_h I → X 4 [some (.ref 0), some (.int b), some (.int (t_sum k fun h => t_less b (g_claim (tG I) h))), some (.int (nI k))] [] (tW I) 0 0 := by
    refine t_for fun k h1 ih => ?_
    refine hG _ _ _ _ _ _ ?_
    (conv => whnf)
    repeat' (first
      | ((with_reducible refine @And.intro (vp_in _ _) _ ?_ ?_); (· (first | with_reducible assumption | ((with_reducible refine t_vin ?_); decide) | ((with_reducible refine vp_in_nI ?_ ?_) <;> first | omega | decide) | (simp (disch := omega) only [xl_n, xl_m, nI_dec, nI_sb, nI_add, pk_mul]; (with_reducible refine vp_in_nI ?_ ?_) <;> first | omega | decide))); (conv => whnf))
      | (refine And.intro (by first | with_reducible assumption | exact (show tL _ = _ from rfl) | decide) ?_; (conv => whnf))
      | ((with_reducible refine @And.intro (_ = _) _ ?_ ?_); (· rfl); (conv => whnf))
      | ((with_reducible refine @And.intro (@LE.le Nat _ _ _) _ ?_ ?_); (· (first | exact Nat.zero_le _ | exact Nat.le_of_ble_eq_true rfl | omega)); (conv => whnf))
      | ((with_reducible refine @And.intro (@LT.lt Nat _ _ _) _ ?_ ?_); (· omega); (conv => whnf))
      | ((with_reducible refine @And.intro (∃ _, _ = _) _ ?_ ?_); (· exact ⟨_, rfl⟩); (conv => whnf))
      | ((with_reducible refine @And.intro (_ ∨ _) _ ?_ ?_); (· (first | exact Or.inl rfl | exact Or.inr rfl | exact t_b01 _ | assumption)); (conv => whnf))
      | ((with_reducible refine @And.intro (¬ (_ = _)) _ ?_ ?_); (· first | assumption | (with_reducible assumption)); (conv => whnf))
      | (refine hX _ _ _ _ _ _ ?_; (conv => whnf); fail_if_success show False)
      | (rw [t_si]; (conv => whnf))
      | (refine ⟨_, rfl, ?_⟩; (conv => whnf))
      | (refine ⟨_, _, rfl, ?_⟩; (conv => whnf))
      | (refine ⟨_, _, _, rfl, ?_⟩; (conv => whnf))
      | (refine ⟨_, _, _, _, rfl, ?_⟩; (conv => whnf))
      | fail)
    refine And.intro (fun c => ?_) (fun c => ?_) <;> (conv => whnf)
    · repeat' (first
        | ((with_reducible refine @And.intro (vp_in _ _) _ ?_ ?_); (· (first | with_reducible assumption | ((with_reducible refine t_vin ?_); decide) | ((with_reducible refine vp_in_nI ?_ ?_) <;> first | omega | decide) | (simp (disch := omega) only [xl_n, xl_m, nI_dec, nI_sb, nI_add, pk_mul]; (with_reducible refine vp_in_nI ?_ ?_) <;> first | omega | decide))); (conv => whnf))
        | (refine And.intro (by first | with_reducible assumption | exact (show tL _ = _ from rfl) | decide) ?_; (conv => whnf))
        | ((with_reducible refine @And.intro (_ = _) _ ?_ ?_); (· rfl); (conv => whnf))
        | ((with_reducible refine @And.intro (@LE.le Nat _ _ _) _ ?_ ?_); (· (first | exact Nat.zero_le _ | exact Nat.le_of_ble_eq_true rfl | omega)); (conv => whnf))
        | ((with_reducible refine @And.intro (@LT.lt Nat _ _ _) _ ?_ ?_); (· omega); (conv => whnf))
        | ((with_reducible refine @And.intro (∃ _, _ = _) _ ?_ ?_); (· exact ⟨_, rfl⟩); (conv => whnf))
        | ((with_reducible refine @And.intro (_ ∨ _) _ ?_ ?_); (· (first | exact Or.inl rfl | exact Or.inr rfl | exact t_b01 _ | assumption)); (conv => whnf))
        | ((with_reducible refine @And.intro (¬ (_ = _)) _ ?_ ?_); (· first | assumption | (with_reducible assumption)); (conv => whnf))
        | (refine hX _ _ _ _ _ _ ?_; (conv => whnf); fail_if_success show False)
        | (rw [t_si]; (conv => whnf))
        | (refine ⟨_, rfl, ?_⟩; (conv => whnf))
        | (refine ⟨_, _, rfl, ?_⟩; (conv => whnf))
        | (refine ⟨_, _, _, rfl, ?_⟩; (conv => whnf))
        | (refine ⟨_, _, _, _, rfl, ?_⟩; (conv => whnf))
        | fail)
      have : k = t_h I := Nat.le_antisymm h1 (t_kge hn c (by omega) (by omega))
      subst this
      exact hQ
    · have hk : k < t_h I := t_klt hn c (by omega)
      have := ih (k + 1) (by omega) (by omega)
      rw [t_sum_s] at this
      clear ih
      repeat' (first
        | ((with_reducible refine @And.intro (vp_in _ _) _ ?_ ?_); (· (first | with_reducible assumption | ((with_reducible refine t_vin ?_); decide) | ((with_reducible refine vp_in_nI ?_ ?_) <;> first | omega | decide) | (simp (disch := omega) only [xl_n, xl_m, nI_dec, nI_sb, nI_add, pk_mul]; (with_reducible refine vp_in_nI ?_ ?_) <;> first | omega | decide))); (conv => whnf))
        | (refine And.intro (by first | with_reducible assumption | exact (show tL _ = _ from rfl) | decide) ?_; (conv => whnf))
        | ((with_reducible refine @And.intro (_ = _) _ ?_ ?_); (· rfl); (conv => whnf))
        | ((with_reducible refine @And.intro (@LE.le Nat _ _ _) _ ?_ ?_); (· (first | exact Nat.zero_le _ | exact Nat.le_of_ble_eq_true rfl | omega)); (conv => whnf))
        | ((with_reducible refine @And.intro (@LT.lt Nat _ _ _) _ ?_ ?_); (· omega); (conv => whnf))
        | ((with_reducible refine @And.intro (∃ _, _ = _) _ ?_ ?_); (· exact ⟨_, rfl⟩); (conv => whnf))
        | ((with_reducible refine @And.intro (_ ∨ _) _ ?_ ?_); (· (first | exact Or.inl rfl | exact Or.inr rfl | exact t_b01 _ | assumption)); (conv => whnf))
        | ((with_reducible refine @And.intro (¬ (_ = _)) _ ?_ ?_); (· first | assumption | (with_reducible assumption)); (conv => whnf))
        | (refine hX _ _ _ _ _ _ ?_; (conv => whnf); fail_if_success show False)
        | (rw [t_si]; (conv => whnf))
        | (refine ⟨_, rfl, ?_⟩; (conv => whnf))
        | (refine ⟨_, _, rfl, ?_⟩; (conv => whnf))
        | (refine ⟨_, _, _, rfl, ?_⟩; (conv => whnf))
        | (refine ⟨_, _, _, _, rfl, ?_⟩; (conv => whnf))
        | (refine And.intro (fun c => ?_) (fun c => ?_) <;> (first | (exact absurd c (by decide +kernel)) | (conv => whnf)))
        | fail)
      all_goals clear hX hG hQ
      all_goals simp (disch := omega) only [xl_n, xl_m, nI_dec, nI_sb, xl_0, xl_1, tW_i, t_bn0, t_bn1, Classical.not_not, t_lt, nI_add, nI_1, pk_mul, nI_clamp, t_si, nI_eq, nI_leI, nM_ne, nM_ne, xm_set, xm_lv0, xm_psh] at *
      all_goals simpa [*] using this
  refine ⟨rfl, ?_⟩
  repeat' (first
    | ((with_reducible refine @And.intro (vp_in _ _) _ ?_ ?_); (· (first | with_reducible assumption | ((with_reducible refine t_vin ?_); decide) | ((with_reducible refine vp_in_nI ?_ ?_) <;> first | omega | decide) | (simp (disch := omega) only [xl_n, xl_m, nI_dec, nI_sb, nI_add, pk_mul]; (with_reducible refine vp_in_nI ?_ ?_) <;> first | omega | decide))); (conv => whnf))
    | (refine And.intro (by first | with_reducible assumption | exact (show tL _ = _ from rfl) | decide) ?_; (conv => whnf))
    | ((with_reducible refine @And.intro (_ = _) _ ?_ ?_); (· rfl); (conv => whnf))
    | ((with_reducible refine @And.intro (@LE.le Nat _ _ _) _ ?_ ?_); (· (first | exact Nat.zero_le _ | exact Nat.le_of_ble_eq_true rfl | omega)); (conv => whnf))
    | ((with_reducible refine @And.intro (@LT.lt Nat _ _ _) _ ?_ ?_); (· omega); (conv => whnf))
    | ((with_reducible refine @And.intro (∃ _, _ = _) _ ?_ ?_); (· exact ⟨_, rfl⟩); (conv => whnf))
    | ((with_reducible refine @And.intro (_ ∨ _) _ ?_ ?_); (· (first | exact Or.inl rfl | exact Or.inr rfl | exact t_b01 _ | assumption)); (conv => whnf))
    | ((with_reducible refine @And.intro (¬ (_ = _)) _ ?_ ?_); (· first | assumption | (with_reducible assumption)); (conv => whnf))
    | (refine hX _ _ _ _ _ _ ?_; (conv => whnf); fail_if_success show False)
    | (rw [t_si]; (conv => whnf))
    | (refine ⟨_, rfl, ?_⟩; (conv => whnf))
    | (refine ⟨_, _, rfl, ?_⟩; (conv => whnf))
    | (refine ⟨_, _, _, rfl, ?_⟩; (conv => whnf))
    | (refine ⟨_, _, _, _, rfl, ?_⟩; (conv => whnf))
    | (refine And.intro (fun c => ?_) (fun c => ?_) <;> (first | (exact absurd c (by decide +kernel)) | (conv => whnf)))
    | fail)
  exact loop 0 (Nat.zero_le _)
theorem ct_X11_claimsTo {Iv : xI} (hI : xm_good Iv) : xm_Ct Iv yX11_claimsTo (ws_ yX11_claimsTo cX11_claimsTo 4 (some .int)) 4 0 0 S_X11_claimsTo := xm_enter (rt := 0) (init := false) (by decide +kernel) rfl (fun h => by cases h) (Or.inl ⟨rfl, rfl⟩) (oX11_claimsTo hI) body_X11_claimsTo
theorem cv_X11_claimsTo {Iv : xI} {own : String} {cc : ByteArray} {fr pc idx : Nat} (hI : xm_good Iv) (hdg : decode cc pc = .ok (.invokevirtual idx, 3)) (hl : xm_ml own idx yX11_claimsTo) (hfr : 4 < fr) : xm_CallOK Iv own cc fr pc (pc + 3) 2 0 0 (xm_this 8 S_X11_claimsTo) := xm_callV 8 hI (ct_X11_claimsTo hI) hdg hl q2558 qs111 q145 q2559 rfl rfl (by decide +kernel) hfr (by decide)
def q_slack (G : gG) (a : Int32) : gR := g_ck G (t_in a (nI 0) (nI 31)) (nI 1) 1 (g_says G (t_or (gm (gGK G)) fun p => !decide (a ≤ gs (gnow G) p)))
abbrev bX11_slack_0 : List xE := [(.aload_n 0, 1, 0, 0, 0), (.iconst 0, 2, 0, 0, 0), (.putfield 134, 5, 8, 0, 0), (.aload_n 0, 6, 0, 0, 0), (.iload_n 1, 7, 0, 0, 0), (.iconst 0, 8, 0, 0, 0), (.bipush 31, 10, 0, 0, 0), (.invokestatic 168, 13, 0, 0, 9), (.ifCond .ne 7, 16, 0, 20, 0), (.iconst 1, 17, 0, 0, 0), (.goto 4, 20, 0, 21, 0)]
abbrev bX11_slack_20 : List xE := [(.iconst 0, 21, 0, 0, 0)]
abbrev bX11_slack_21 : List xE := [(.iconst 1, 22, 0, 0, 0), (.iconst 1, 23, 0, 0, 0), (.invokevirtual 249, 26, 0, 1, 9), (.ifCond .eq 5, 29, 0, 31, 0), (.iconst 0, 30, 0, 0, 0), (.ireturn, 31, 0, 0, 0)]
abbrev bX11_slack_31 : List xE := [(.iconst 0, 32, 0, 0, 0), (.istore_n 2, 33, 0, 0, 0), (.iconst 0, 34, 0, 0, 0), (.istore_n 3, 35, 0, 0, 0)]
abbrev bX11_slack_35 : List xE := [(.iload_n 3, 36, 0, 0, 0), (.aload_n 0, 37, 0, 0, 0), (.getfield 23, 40, 8, 12, 1), (.iconst 1, 41, 0, 0, 0), (.iaload, 42, 0, 0, 0), (.if_icmp .ge 32, 45, 0, 74, 0), (.iload_n 2, 46, 0, 0, 0), (.aload_n 0, 47, 0, 0, 0), (.getfield 91, 50, 8, 36, 1), (.bipush 9, 52, 0, 0, 0), (.iload_n 3, 53, 0, 0, 0), (.iadd, 54, 0, 0, 0), (.iaload, 55, 0, 0, 0), (.iload_n 1, 56, 0, 0, 0), (.if_icmp .ge 9, 59, 0, 65, 0), (.iconst 1, 60, 0, 0, 0), (.iload_n 3, 61, 0, 0, 0), (.ishl, 62, 0, 0, 0), (.goto 4, 65, 0, 66, 0)]
abbrev bX11_slack_65 : List xE := [(.iconst 0, 66, 0, 0, 0)]
abbrev bX11_slack_66 : List xE := [(.ior, 67, 0, 0, 0), (.istore_n 2, 68, 0, 0, 0), (.iinc 3 1, 71, 0, 0, 0), (.goto (-36), 74, 0, 35, 0)]
abbrev bX11_slack_74 : List xE := [(.iload_n 2, 75, 0, 0, 0), (.ireturn, 76, 0, 0, 0)]
abbrev kX11_slack : List (Nat × List xE) := [(0, bX11_slack_0), (20, bX11_slack_20), (21, bX11_slack_21), (31, bX11_slack_31), (35, bX11_slack_35), (65, bX11_slack_65), (66, bX11_slack_66), (74, bX11_slack_74)]
abbrev lX11_slack : List (Nat × Nat × Nat × xS) := [(3, 0, 0, S_X11_in), (4, 0, 0, xm_this 8 S_X11_bad)]
theorem oX11_slack_0 {Iv : xI} (hI : xm_good Iv)  : xm_okb Iv RX11 cX11_slack false 2 lX11_slack bX11_slack_0 0 := xo_0 dX11_slack_0 rfl trivial (xo_0 dX11_slack_1 rfl trivial (xo_0 dX11_slack_2 rfl (xm_fp_of (xm_fg_of (Or.inl q1955) (by decide) rfl (by decide) rfl rfl (Or.inl rfl) rfl) (by decide) rfl (Or.inl ⟨rfl, rfl⟩) rfl) (xo_0 dX11_slack_5 rfl trivial (xo_0 dX11_slack_6 rfl trivial (xo_0 dX11_slack_7 rfl trivial (xo_0 dX11_slack_8 rfl (xo_bipush (by decide +kernel)) (xo_c rfl (cv_X11_in hI dX11_slack_10 (Or.inl q1942) (by decide)) (xo_0 dX11_slack_13 rfl rfl (xo_0 dX11_slack_16 rfl trivial (xo_0 dX11_slack_17 rfl rfl (xo_n)))))))))))
theorem oX11_slack_20 {Iv : xI} (hI : xm_good Iv)  : xm_okb Iv RX11 cX11_slack false 2 lX11_slack bX11_slack_20 20 := xo_0 dX11_slack_20 rfl trivial (xo_n)
theorem oX11_slack_21 {Iv : xI} (hI : xm_good Iv)  : xm_okb Iv RX11 cX11_slack false 2 lX11_slack bX11_slack_21 21 := xo_0 dX11_slack_21 rfl trivial (xo_0 dX11_slack_22 rfl trivial (xo_c rfl (cv_X11_bad hI dX11_slack_23 (Or.inl q2137) (by decide)) (xo_0 dX11_slack_26 rfl rfl (xo_0 dX11_slack_29 rfl trivial (xo_0 dX11_slack_30 rfl trivial (xo_n))))))
theorem oX11_slack_31 {Iv : xI} (hI : xm_good Iv)  : xm_okb Iv RX11 cX11_slack false 2 lX11_slack bX11_slack_31 31 := xo_0 dX11_slack_31 rfl trivial (xo_0 dX11_slack_32 rfl trivial (xo_0 dX11_slack_33 rfl trivial (xo_0 dX11_slack_34 rfl trivial (xo_n))))
theorem oX11_slack_35 {Iv : xI} (hI : xm_good Iv)  : xm_okb Iv RX11 cX11_slack false 2 lX11_slack bX11_slack_35 35 := xo_0 dX11_slack_35 rfl trivial (xo_0 dX11_slack_36 rfl trivial (xo_1 dX11_slack_37 rfl (xm_fg_of (Or.inl q1967) (by decide) rfl (by decide) rfl rfl (Or.inl rfl) rfl) (xo_0 dX11_slack_40 rfl trivial (xo_0 dX11_slack_41 rfl trivial (xo_0 dX11_slack_42 rfl rfl (xo_0 dX11_slack_45 rfl trivial (xo_0 dX11_slack_46 rfl trivial (xo_1 dX11_slack_47 rfl (xm_fg_of (Or.inl q1991) (by decide) rfl (by decide) rfl rfl (Or.inl rfl) rfl) (xo_0 dX11_slack_50 rfl (xo_bipush (by decide +kernel)) (xo_0 dX11_slack_52 rfl trivial (xo_0 dX11_slack_53 rfl trivial (xo_0 dX11_slack_54 rfl trivial (xo_0 dX11_slack_55 rfl trivial (xo_0 dX11_slack_56 rfl rfl (xo_0 dX11_slack_59 rfl trivial (xo_0 dX11_slack_60 rfl trivial (xo_0 dX11_slack_61 rfl trivial (xo_0 dX11_slack_62 rfl rfl (xo_n)))))))))))))))))))
theorem oX11_slack_65 {Iv : xI} (hI : xm_good Iv)  : xm_okb Iv RX11 cX11_slack false 2 lX11_slack bX11_slack_65 65 := xo_0 dX11_slack_65 rfl trivial (xo_n)
theorem oX11_slack_66 {Iv : xI} (hI : xm_good Iv)  : xm_okb Iv RX11 cX11_slack false 2 lX11_slack bX11_slack_66 66 := xo_0 dX11_slack_66 rfl trivial (xo_0 dX11_slack_67 rfl trivial (xo_0 dX11_slack_68 rfl trivial (xo_0 dX11_slack_71 rfl rfl (xo_n))))
theorem oX11_slack_74 {Iv : xI} (hI : xm_good Iv)  : xm_okb Iv RX11 cX11_slack false 2 lX11_slack bX11_slack_74 74 := xo_0 dX11_slack_74 rfl trivial (xo_0 dX11_slack_75 rfl trivial (xo_n))
theorem oX11_slack {Iv : xI} (hI : xm_good Iv)  : ∀ q ∈ kX11_slack, xm_okb Iv RX11 cX11_slack false 2 lX11_slack q.2 q.1 := by
  intro q hq
  simp only [List.mem_cons, List.not_mem_nil, or_false] at hq
  rcases hq with rfl | rfl | rfl | rfl | rfl | rfl | rfl | rfl
  · exact oX11_slack_0 hI  
  · exact oX11_slack_20 hI  
  · exact oX11_slack_21 hI  
  · exact oX11_slack_31 hI  
  · exact oX11_slack_35 hI  
  · exact oX11_slack_65 hI  
  · exact oX11_slack_66 hI  
  · exact oX11_slack_74 hI  
def S_X11_slack : xS := tU fun as I Q => ∃ a, as = [.ref 0, .int a] ∧ t_good I ∧ t_P Q (q_slack (tG I) a)
theorem body_X11_slack : xm_Body 4 0 0 0 [] lX11_slack kX11_slack S_X11_slack := by
  intro X avs w Q QX hX0 hS
  have hG := xm_go [] hX0
  have hX := xm_go [35] hX0
  clear hX0
  obtain ⟨I, rfl, a, rfl, hg, hQ⟩ := hS
  refine ⟨rfl, ?_⟩
  repeat' (first
    | ((with_reducible refine @And.intro (vp_in _ _) _ ?_ ?_); (· (first | with_reducible assumption | ((with_reducible refine t_vin ?_); decide) | ((with_reducible refine vp_in_nI ?_ ?_) <;> first | omega | decide) | (simp (disch := omega) only [xl_n, xl_m, nI_dec, nI_sb, nI_add, pk_mul]; (with_reducible refine vp_in_nI ?_ ?_) <;> first | omega | decide))); (conv => whnf))
    | (refine And.intro (by first | with_reducible assumption | exact (show tL _ = _ from rfl) | decide) ?_; (conv => whnf))
    | ((with_reducible refine @And.intro (_ = _) _ ?_ ?_); (· rfl); (conv => whnf))
    | ((with_reducible refine @And.intro (@LE.le Nat _ _ _) _ ?_ ?_); (· (first | exact Nat.zero_le _ | exact Nat.le_of_ble_eq_true rfl | omega)); (conv => whnf))
    | ((with_reducible refine @And.intro (@LT.lt Nat _ _ _) _ ?_ ?_); (· omega); (conv => whnf))
    | ((with_reducible refine @And.intro (∃ _, _ = _) _ ?_ ?_); (· exact ⟨_, rfl⟩); (conv => whnf))
    | ((with_reducible refine @And.intro (_ ∨ _) _ ?_ ?_); (· (first | exact Or.inl rfl | exact Or.inr rfl | exact t_b01 _ | assumption)); (conv => whnf))
    | ((with_reducible refine @And.intro (¬ (_ = _)) _ ?_ ?_); (· first | assumption | (with_reducible assumption)); (conv => whnf))
    | (refine hX _ _ _ _ _ _ ?_; (conv => whnf); fail_if_success show False)
    | fail)
  rw [t_si]
  obtain ⟨J, hJ, hg1, hG1, h01⟩ := t_pub hg
  rw [← hJ]
  rw [← hG1] at hQ
  clear hJ hG1 hg I
  have hg := hg1
  have hok := hg.1
  have hl := hg.2.1
  have h8 := hok.2.2.2.1
  have h9 := hok.2.1
  (conv => whnf)
  have hm := hok.2.2.1
  rcases t_rc a 0 31 (L := Int32.ofInt 0) (H := Int32.ofInt 31) (by decide +kernel) (by decide +kernel) (by omega) (by omega) with ⟨n, -, hn, rfl, e1, f1⟩ | ⟨e1, f1⟩
  · rw [q_slack, f1, g_ck_t] at hQ
    have loop : ∀ k, k ≤ t_p J → X 35 [some (.ref 0), some (.int (nI n)), some (.int (t_or k fun p => !decide (nI n ≤ gs (tA J 36) p))), some (.int (nI k))] [] (tW J) 0 0 := by
      refine t_for fun k h1 ih => ?_
      refine hG _ _ _ _ _ _ ?_
      (conv => whnf)
      repeat' (first
        | ((with_reducible refine @And.intro (vp_in _ _) _ ?_ ?_); (· (first | with_reducible assumption | ((with_reducible refine t_vin ?_); decide) | ((with_reducible refine vp_in_nI ?_ ?_) <;> first | omega | decide) | (simp (disch := omega) only [xl_n, xl_m, nI_dec, nI_sb, nI_add, pk_mul]; (with_reducible refine vp_in_nI ?_ ?_) <;> first | omega | decide))); (conv => whnf))
        | (refine And.intro (by first | with_reducible assumption | exact (show tL _ = _ from rfl) | decide) ?_; (conv => whnf))
        | ((with_reducible refine @And.intro (_ = _) _ ?_ ?_); (· rfl); (conv => whnf))
        | ((with_reducible refine @And.intro (@LE.le Nat _ _ _) _ ?_ ?_); (· (first | exact Nat.zero_le _ | exact Nat.le_of_ble_eq_true rfl | omega)); (conv => whnf))
        | ((with_reducible refine @And.intro (@LT.lt Nat _ _ _) _ ?_ ?_); (· omega); (conv => whnf))
        | ((with_reducible refine @And.intro (∃ _, _ = _) _ ?_ ?_); (· exact ⟨_, rfl⟩); (conv => whnf))
        | ((with_reducible refine @And.intro (_ ∨ _) _ ?_ ?_); (· (first | exact Or.inl rfl | exact Or.inr rfl | exact t_b01 _ | assumption)); (conv => whnf))
        | ((with_reducible refine @And.intro (¬ (_ = _)) _ ?_ ?_); (· first | assumption | (with_reducible assumption)); (conv => whnf))
        | (refine hX _ _ _ _ _ _ ?_; (conv => whnf); fail_if_success show False)
        | (rw [t_si]; (conv => whnf))
        | (refine ⟨_, rfl, ?_⟩; (conv => whnf))
        | (refine ⟨_, _, rfl, ?_⟩; (conv => whnf))
        | (refine ⟨_, _, _, rfl, ?_⟩; (conv => whnf))
        | (refine ⟨_, _, _, _, rfl, ?_⟩; (conv => whnf))
        | fail)
      refine And.intro (fun c => ?_) (fun c => ?_) <;> (conv => whnf)
      · repeat' (first
          | ((with_reducible refine @And.intro (vp_in _ _) _ ?_ ?_); (· (first | with_reducible assumption | ((with_reducible refine t_vin ?_); decide) | ((with_reducible refine vp_in_nI ?_ ?_) <;> first | omega | decide) | (simp (disch := omega) only [xl_n, xl_m, nI_dec, nI_sb, nI_add, pk_mul]; (with_reducible refine vp_in_nI ?_ ?_) <;> first | omega | decide))); (conv => whnf))
          | (refine And.intro (by first | with_reducible assumption | exact (show tL _ = _ from rfl) | decide) ?_; (conv => whnf))
          | ((with_reducible refine @And.intro (_ = _) _ ?_ ?_); (· rfl); (conv => whnf))
          | ((with_reducible refine @And.intro (@LE.le Nat _ _ _) _ ?_ ?_); (· (first | exact Nat.zero_le _ | exact Nat.le_of_ble_eq_true rfl | omega)); (conv => whnf))
          | ((with_reducible refine @And.intro (@LT.lt Nat _ _ _) _ ?_ ?_); (· omega); (conv => whnf))
          | ((with_reducible refine @And.intro (∃ _, _ = _) _ ?_ ?_); (· exact ⟨_, rfl⟩); (conv => whnf))
          | ((with_reducible refine @And.intro (_ ∨ _) _ ?_ ?_); (· (first | exact Or.inl rfl | exact Or.inr rfl | exact t_b01 _ | assumption)); (conv => whnf))
          | ((with_reducible refine @And.intro (¬ (_ = _)) _ ?_ ?_); (· first | assumption | (with_reducible assumption)); (conv => whnf))
          | (refine hX _ _ _ _ _ _ ?_; (conv => whnf); fail_if_success show False)
          | (rw [t_si]; (conv => whnf))
          | (refine ⟨_, rfl, ?_⟩; (conv => whnf))
          | (refine ⟨_, _, rfl, ?_⟩; (conv => whnf))
          | (refine ⟨_, _, _, rfl, ?_⟩; (conv => whnf))
          | (refine ⟨_, _, _, _, rfl, ?_⟩; (conv => whnf))
          | fail)
        have : k = t_p J := Nat.le_antisymm h1 (t_kge hm c (by omega) (by omega))
        subst this
        exact t_ask hQ hg t_sp.rf h01 rfl
      · have hk : k < t_p J := t_klt hm c (by omega)
        have := ih (k + 1) (by omega) (by omega)
        rw [t_or_s, tA_gs (by omega)] at this
        clear ih
        repeat' (first
          | ((with_reducible refine @And.intro (vp_in _ _) _ ?_ ?_); (· (first | with_reducible assumption | ((with_reducible refine t_vin ?_); decide) | ((with_reducible refine vp_in_nI ?_ ?_) <;> first | omega | decide) | (simp (disch := omega) only [xl_n, xl_m, nI_dec, nI_sb, nI_add, pk_mul]; (with_reducible refine vp_in_nI ?_ ?_) <;> first | omega | decide))); (conv => whnf))
          | (refine And.intro (by first | with_reducible assumption | exact (show tL _ = _ from rfl) | decide) ?_; (conv => whnf))
          | ((with_reducible refine @And.intro (_ = _) _ ?_ ?_); (· rfl); (conv => whnf))
          | ((with_reducible refine @And.intro (@LE.le Nat _ _ _) _ ?_ ?_); (· (first | exact Nat.zero_le _ | exact Nat.le_of_ble_eq_true rfl | omega)); (conv => whnf))
          | ((with_reducible refine @And.intro (@LT.lt Nat _ _ _) _ ?_ ?_); (· omega); (conv => whnf))
          | ((with_reducible refine @And.intro (∃ _, _ = _) _ ?_ ?_); (· exact ⟨_, rfl⟩); (conv => whnf))
          | ((with_reducible refine @And.intro (_ ∨ _) _ ?_ ?_); (· (first | exact Or.inl rfl | exact Or.inr rfl | exact t_b01 _ | assumption)); (conv => whnf))
          | ((with_reducible refine @And.intro (¬ (_ = _)) _ ?_ ?_); (· first | assumption | (with_reducible assumption)); (conv => whnf))
          | (refine hX _ _ _ _ _ _ ?_; (conv => whnf); fail_if_success show False)
          | (rw [t_si]; (conv => whnf))
          | (refine ⟨_, rfl, ?_⟩; (conv => whnf))
          | (refine ⟨_, _, rfl, ?_⟩; (conv => whnf))
          | (refine ⟨_, _, _, rfl, ?_⟩; (conv => whnf))
          | (refine ⟨_, _, _, _, rfl, ?_⟩; (conv => whnf))
          | (refine And.intro (fun c => ?_) (fun c => ?_) <;> (first | (exact absurd c (by decide +kernel)) | (conv => whnf)))
          | fail)
        all_goals clear hX hG hQ
        all_goals simp (disch := omega) only [xl_n, xl_m, nI_dec, nI_sb, xl_0, xl_1, tW_i, t_bn0, t_bn1, Classical.not_not, t_lt, nI_add, nI_1, pk_mul, nI_clamp, t_si, nI_eq, nI_leI, nM_ne, nM_ne, xm_set, xm_lv0, xm_psh] at *
        all_goals simpa [t_bit, c] using this
    repeat' (first
      | ((with_reducible refine @And.intro (vp_in _ _) _ ?_ ?_); (· (first | with_reducible assumption | ((with_reducible refine t_vin ?_); decide) | ((with_reducible refine vp_in_nI ?_ ?_) <;> first | omega | decide) | (simp (disch := omega) only [xl_n, xl_m, nI_dec, nI_sb, nI_add, pk_mul]; (with_reducible refine vp_in_nI ?_ ?_) <;> first | omega | decide))); (conv => whnf))
      | (refine And.intro (by first | with_reducible assumption | exact (show tL _ = _ from rfl) | decide) ?_; (conv => whnf))
      | ((with_reducible refine @And.intro (_ = _) _ ?_ ?_); (· rfl); (conv => whnf))
      | ((with_reducible refine @And.intro (@LE.le Nat _ _ _) _ ?_ ?_); (· (first | exact Nat.zero_le _ | exact Nat.le_of_ble_eq_true rfl | omega)); (conv => whnf))
      | ((with_reducible refine @And.intro (@LT.lt Nat _ _ _) _ ?_ ?_); (· omega); (conv => whnf))
      | ((with_reducible refine @And.intro (∃ _, _ = _) _ ?_ ?_); (· exact ⟨_, rfl⟩); (conv => whnf))
      | ((with_reducible refine @And.intro (_ ∨ _) _ ?_ ?_); (· (first | exact Or.inl rfl | exact Or.inr rfl | exact t_b01 _ | assumption)); (conv => whnf))
      | ((with_reducible refine @And.intro (¬ (_ = _)) _ ?_ ?_); (· first | assumption | (with_reducible assumption)); (conv => whnf))
      | (refine hX _ _ _ _ _ _ ?_; (conv => whnf); fail_if_success show False)
      | (rw [t_si]; (conv => whnf))
      | (refine ⟨_, rfl, ?_⟩; (conv => whnf))
      | (refine ⟨_, _, rfl, ?_⟩; (conv => whnf))
      | (refine ⟨_, _, _, rfl, ?_⟩; (conv => whnf))
      | (refine ⟨_, _, _, _, rfl, ?_⟩; (conv => whnf))
      | (rw [e1]; (conv => whnf))
      | (refine And.intro (fun c => ?_) (fun c => ?_) <;> (first | (exact absurd c (by decide +kernel)) | (conv => whnf)))
      | fail)
    exact loop 0 (Nat.zero_le _)
  · rw [q_slack] at hQ
    repeat' (first
      | ((with_reducible refine @And.intro (vp_in _ _) _ ?_ ?_); (· (first | with_reducible assumption | ((with_reducible refine t_vin ?_); decide) | ((with_reducible refine vp_in_nI ?_ ?_) <;> first | omega | decide) | (simp (disch := omega) only [xl_n, xl_m, nI_dec, nI_sb, nI_add, pk_mul]; (with_reducible refine vp_in_nI ?_ ?_) <;> first | omega | decide))); (conv => whnf))
      | (refine And.intro (by first | with_reducible assumption | exact (show tL _ = _ from rfl) | decide) ?_; (conv => whnf))
      | ((with_reducible refine @And.intro (_ = _) _ ?_ ?_); (· rfl); (conv => whnf))
      | ((with_reducible refine @And.intro (@LE.le Nat _ _ _) _ ?_ ?_); (· (first | exact Nat.zero_le _ | exact Nat.le_of_ble_eq_true rfl | omega)); (conv => whnf))
      | ((with_reducible refine @And.intro (@LT.lt Nat _ _ _) _ ?_ ?_); (· omega); (conv => whnf))
      | ((with_reducible refine @And.intro (∃ _, _ = _) _ ?_ ?_); (· exact ⟨_, rfl⟩); (conv => whnf))
      | ((with_reducible refine @And.intro (_ ∨ _) _ ?_ ?_); (· (first | exact Or.inl rfl | exact Or.inr rfl | exact t_b01 _ | assumption)); (conv => whnf))
      | ((with_reducible refine @And.intro (¬ (_ = _)) _ ?_ ?_); (· first | assumption | (with_reducible assumption)); (conv => whnf))
      | (refine hX _ _ _ _ _ _ ?_; (conv => whnf); fail_if_success show False)
      | (rw [t_si]; (conv => whnf))
      | (refine ⟨_, rfl, ?_⟩; (conv => whnf))
      | (refine ⟨_, _, rfl, ?_⟩; (conv => whnf))
      | (refine ⟨_, _, _, rfl, ?_⟩; (conv => whnf))
      | (refine ⟨_, _, _, _, rfl, ?_⟩; (conv => whnf))
      | (rw [e1]; (conv => whnf))
      | (refine And.intro (fun c => ?_) (fun c => ?_) <;> (first | (exact absurd c (by decide +kernel)) | (conv => whnf)))
      | fail)
    exact t_ref' hQ hg h01 (by simp [f1]) (by decide) rfl rfl
theorem ct_X11_slack {Iv : xI} (hI : xm_good Iv) : xm_Ct Iv yX11_slack (ws_ yX11_slack cX11_slack 4 (some .int)) 2 0 0 S_X11_slack := xm_enter (rt := 0) (init := false) (by decide +kernel) rfl (fun h => by cases h) (Or.inl ⟨rfl, rfl⟩) (oX11_slack hI) body_X11_slack
theorem cv_X11_slack {Iv : xI} {own : String} {cc : ByteArray} {fr pc idx : Nat} (hI : xm_good Iv) (hdg : decode cc pc = .ok (.invokevirtual idx, 3)) (hl : xm_ml own idx yX11_slack) (hfr : 2 < fr) : xm_CallOK Iv own cc fr pc (pc + 3) 2 0 0 (xm_this 8 S_X11_slack) := xm_callV 8 hI (ct_X11_slack hI) hdg hl q2593 q2594 q145 q2595 rfl rfl (by decide +kernel) hfr (by decide)
def g_mutes (G : gG) (used set : Int32) (n : Nat) : Bool := t_ex n fun h => t_has set h && !decide (gsil G h &&& (used ||| set) = nI 0)
abbrev bX11_speaksWith_0 : List xE := [(.iconst 0, 1, 0, 0, 0), (.istore_n 3, 2, 0, 0, 0)]
abbrev bX11_speaksWith_2 : List xE := [(.iload_n 3, 3, 0, 0, 0), (.aload_n 0, 4, 0, 0, 0), (.getfield 23, 7, 8, 12, 1), (.iconst 0, 8, 0, 0, 0), (.iaload, 9, 0, 0, 0), (.if_icmp .ge 32, 12, 0, 41, 0), (.iload_n 2, 13, 0, 0, 0), (.iload_n 3, 14, 0, 0, 0), (.invokestatic 242, 17, 0, 0, 9), (.ifCond .eq 18, 20, 0, 35, 0), (.aload_n 0, 21, 0, 0, 0), (.getfield 41, 24, 8, 18, 1), (.iload_n 3, 25, 0, 0, 0), (.iaload, 26, 0, 0, 0), (.iload_n 1, 27, 0, 0, 0), (.iload_n 2, 28, 0, 0, 0), (.ior, 29, 0, 0, 0), (.iand, 30, 0, 0, 0), (.ifCond .eq 5, 33, 0, 35, 0), (.iconst 0, 34, 0, 0, 0), (.ireturn, 35, 0, 0, 0)]
abbrev bX11_speaksWith_35 : List xE := [(.iinc 3 1, 38, 0, 0, 0), (.goto (-36), 41, 0, 2, 0)]
abbrev bX11_speaksWith_41 : List xE := [(.iconst 1, 42, 0, 0, 0), (.ireturn, 43, 0, 0, 0)]
abbrev kX11_speaksWith : List (Nat × List xE) := [(0, bX11_speaksWith_0), (2, bX11_speaksWith_2), (35, bX11_speaksWith_35), (41, bX11_speaksWith_41)]
abbrev lX11_speaksWith : List (Nat × Nat × Nat × xS) := [(2, 0, 0, S_X11_has)]
theorem oX11_speaksWith_0 {Iv : xI} (hI : xm_good Iv)  : xm_okb Iv RX11 cX11_speaksWith false 2 lX11_speaksWith bX11_speaksWith_0 0 := xo_0 dX11_speaksWith_0 rfl trivial (xo_0 dX11_speaksWith_1 rfl trivial (xo_n))
theorem oX11_speaksWith_2 {Iv : xI} (hI : xm_good Iv)  : xm_okb Iv RX11 cX11_speaksWith false 2 lX11_speaksWith bX11_speaksWith_2 2 := xo_0 dX11_speaksWith_2 rfl trivial (xo_0 dX11_speaksWith_3 rfl trivial (xo_1 dX11_speaksWith_4 rfl (xm_fg_of (Or.inl q1967) (by decide) rfl (by decide) rfl rfl (Or.inl rfl) rfl) (xo_0 dX11_speaksWith_7 rfl trivial (xo_0 dX11_speaksWith_8 rfl trivial (xo_0 dX11_speaksWith_9 rfl rfl (xo_0 dX11_speaksWith_12 rfl trivial (xo_0 dX11_speaksWith_13 rfl trivial (xo_c rfl (cv_X11_has hI dX11_speaksWith_14 (Or.inl q1945) (by decide)) (xo_0 dX11_speaksWith_17 rfl rfl (xo_0 dX11_speaksWith_20 rfl trivial (xo_1 dX11_speaksWith_21 rfl (xm_fg_of (Or.inl q1973) (by decide) rfl (by decide) rfl rfl (Or.inl rfl) rfl) (xo_0 dX11_speaksWith_24 rfl trivial (xo_0 dX11_speaksWith_25 rfl trivial (xo_0 dX11_speaksWith_26 rfl trivial (xo_0 dX11_speaksWith_27 rfl trivial (xo_0 dX11_speaksWith_28 rfl trivial (xo_0 dX11_speaksWith_29 rfl trivial (xo_0 dX11_speaksWith_30 rfl rfl (xo_0 dX11_speaksWith_33 rfl trivial (xo_0 dX11_speaksWith_34 rfl trivial (xo_n)))))))))))))))))))))
theorem oX11_speaksWith_35 {Iv : xI} (hI : xm_good Iv)  : xm_okb Iv RX11 cX11_speaksWith false 2 lX11_speaksWith bX11_speaksWith_35 35 := xo_0 dX11_speaksWith_35 rfl trivial (xo_0 dX11_speaksWith_38 rfl rfl (xo_n))
theorem oX11_speaksWith_41 {Iv : xI} (hI : xm_good Iv)  : xm_okb Iv RX11 cX11_speaksWith false 2 lX11_speaksWith bX11_speaksWith_41 41 := xo_0 dX11_speaksWith_41 rfl trivial (xo_0 dX11_speaksWith_42 rfl trivial (xo_n))
theorem oX11_speaksWith {Iv : xI} (hI : xm_good Iv)  : ∀ q ∈ kX11_speaksWith, xm_okb Iv RX11 cX11_speaksWith false 2 lX11_speaksWith q.2 q.1 := by
  intro q hq
  simp only [List.mem_cons, List.not_mem_nil, or_false] at hq
  rcases hq with rfl | rfl | rfl | rfl
  · exact oX11_speaksWith_0 hI  
  · exact oX11_speaksWith_2 hI  
  · exact oX11_speaksWith_35 hI  
  · exact oX11_speaksWith_41 hI  
def S_X11_speaksWith : xS := tU fun as I Q => ∃ u s, as = [.ref 0, .int u, .int s] ∧ t_good I ∧ Q (some (.int (t_b (!g_mutes (tG I) u s (gn (gGK (tG I))))))) I
theorem body_X11_speaksWith : xm_Body 4 1 0 0 [] lX11_speaksWith kX11_speaksWith S_X11_speaksWith := by
  intro X avs w Q QX hX0 hS
  have hG := xm_go [] hX0
  have hX := xm_go [2] hX0
  clear hX0
  obtain ⟨I, rfl, u, s, rfl, hg, hQ⟩ := hS
  obtain ⟨hn, h9, hm, h8, -⟩ := id hg.1
  have es : ∀ k, k < 9 → gsil (tG I) k = I 18 k := fun k hk => if_pos hk
  have loop : ∀ k, k ≤ t_h I → g_mutes (tG I) u s k = false → X 2 [some (.ref 0), some (.int u), some (.int s), some (.int (nI k))] [] (tW I) 0 0 := by
    refine t_for fun k h1 ih hf => ?_
    refine hG _ _ _ _ _ _ ?_
    (conv => whnf)
    repeat' (first
      | ((with_reducible refine @And.intro (vp_in _ _) _ ?_ ?_); (· (first | with_reducible assumption | ((with_reducible refine t_vin ?_); decide) | ((with_reducible refine vp_in_nI ?_ ?_) <;> first | omega | decide) | (simp (disch := omega) only [xl_n, xl_m, nI_dec, nI_sb, nI_add, pk_mul]; (with_reducible refine vp_in_nI ?_ ?_) <;> first | omega | decide))); (conv => whnf))
      | (refine And.intro (by first | with_reducible assumption | exact (show tL _ = _ from rfl) | decide) ?_; (conv => whnf))
      | ((with_reducible refine @And.intro (_ = _) _ ?_ ?_); (· rfl); (conv => whnf))
      | ((with_reducible refine @And.intro (@LE.le Nat _ _ _) _ ?_ ?_); (· (first | exact Nat.zero_le _ | exact Nat.le_of_ble_eq_true rfl | omega)); (conv => whnf))
      | ((with_reducible refine @And.intro (@LT.lt Nat _ _ _) _ ?_ ?_); (· omega); (conv => whnf))
      | ((with_reducible refine @And.intro (∃ _, _ = _) _ ?_ ?_); (· exact ⟨_, rfl⟩); (conv => whnf))
      | ((with_reducible refine @And.intro (_ ∨ _) _ ?_ ?_); (· (first | exact Or.inl rfl | exact Or.inr rfl | exact t_b01 _ | assumption)); (conv => whnf))
      | ((with_reducible refine @And.intro (¬ (_ = _)) _ ?_ ?_); (· first | assumption | (with_reducible assumption)); (conv => whnf))
      | (refine hX _ _ _ _ _ _ ?_; (conv => whnf); fail_if_success show False)
      | (rw [t_si]; (conv => whnf))
      | (refine ⟨_, rfl, ?_⟩; (conv => whnf))
      | (refine ⟨_, _, rfl, ?_⟩; (conv => whnf))
      | (refine ⟨_, _, _, rfl, ?_⟩; (conv => whnf))
      | (refine ⟨_, _, _, _, rfl, ?_⟩; (conv => whnf))
      | fail)
    refine And.intro (fun c => ?_) (fun c => ?_) <;> (conv => whnf)
    · repeat' (first
        | ((with_reducible refine @And.intro (vp_in _ _) _ ?_ ?_); (· (first | with_reducible assumption | ((with_reducible refine t_vin ?_); decide) | ((with_reducible refine vp_in_nI ?_ ?_) <;> first | omega | decide) | (simp (disch := omega) only [xl_n, xl_m, nI_dec, nI_sb, nI_add, pk_mul]; (with_reducible refine vp_in_nI ?_ ?_) <;> first | omega | decide))); (conv => whnf))
        | (refine And.intro (by first | with_reducible assumption | exact (show tL _ = _ from rfl) | decide) ?_; (conv => whnf))
        | ((with_reducible refine @And.intro (_ = _) _ ?_ ?_); (· rfl); (conv => whnf))
        | ((with_reducible refine @And.intro (@LE.le Nat _ _ _) _ ?_ ?_); (· (first | exact Nat.zero_le _ | exact Nat.le_of_ble_eq_true rfl | omega)); (conv => whnf))
        | ((with_reducible refine @And.intro (@LT.lt Nat _ _ _) _ ?_ ?_); (· omega); (conv => whnf))
        | ((with_reducible refine @And.intro (∃ _, _ = _) _ ?_ ?_); (· exact ⟨_, rfl⟩); (conv => whnf))
        | ((with_reducible refine @And.intro (_ ∨ _) _ ?_ ?_); (· (first | exact Or.inl rfl | exact Or.inr rfl | exact t_b01 _ | assumption)); (conv => whnf))
        | ((with_reducible refine @And.intro (¬ (_ = _)) _ ?_ ?_); (· first | assumption | (with_reducible assumption)); (conv => whnf))
        | (refine hX _ _ _ _ _ _ ?_; (conv => whnf); fail_if_success show False)
        | (rw [t_si]; (conv => whnf))
        | (refine ⟨_, rfl, ?_⟩; (conv => whnf))
        | (refine ⟨_, _, rfl, ?_⟩; (conv => whnf))
        | (refine ⟨_, _, _, rfl, ?_⟩; (conv => whnf))
        | (refine ⟨_, _, _, _, rfl, ?_⟩; (conv => whnf))
        | fail)
      have : k = t_h I := Nat.le_antisymm h1 (t_kge hn c (by omega) (by omega))
      subst this
      have e : g_mutes (tG I) u s (gn (gGK (tG I))) = false := hf
      rw [e] at hQ
      exact hQ
    · have hk : k < t_h I := t_klt hn c (by omega)
      repeat' (first
        | ((with_reducible refine @And.intro (vp_in _ _) _ ?_ ?_); (· (first | with_reducible assumption | ((with_reducible refine t_vin ?_); decide) | ((with_reducible refine vp_in_nI ?_ ?_) <;> first | omega | decide) | (simp (disch := omega) only [xl_n, xl_m, nI_dec, nI_sb, nI_add, pk_mul]; (with_reducible refine vp_in_nI ?_ ?_) <;> first | omega | decide))); (conv => whnf))
        | (refine And.intro (by first | with_reducible assumption | exact (show tL _ = _ from rfl) | decide) ?_; (conv => whnf))
        | ((with_reducible refine @And.intro (_ = _) _ ?_ ?_); (· rfl); (conv => whnf))
        | ((with_reducible refine @And.intro (@LE.le Nat _ _ _) _ ?_ ?_); (· (first | exact Nat.zero_le _ | exact Nat.le_of_ble_eq_true rfl | omega)); (conv => whnf))
        | ((with_reducible refine @And.intro (@LT.lt Nat _ _ _) _ ?_ ?_); (· omega); (conv => whnf))
        | ((with_reducible refine @And.intro (∃ _, _ = _) _ ?_ ?_); (· exact ⟨_, rfl⟩); (conv => whnf))
        | ((with_reducible refine @And.intro (_ ∨ _) _ ?_ ?_); (· (first | exact Or.inl rfl | exact Or.inr rfl | exact t_b01 _ | assumption)); (conv => whnf))
        | ((with_reducible refine @And.intro (¬ (_ = _)) _ ?_ ?_); (· first | assumption | (with_reducible assumption)); (conv => whnf))
        | (refine hX _ _ _ _ _ _ ?_; (conv => whnf); fail_if_success show False)
        | (rw [t_si]; (conv => whnf))
        | (refine ⟨_, rfl, ?_⟩; (conv => whnf))
        | (refine ⟨_, _, rfl, ?_⟩; (conv => whnf))
        | (refine ⟨_, _, _, rfl, ?_⟩; (conv => whnf))
        | (refine ⟨_, _, _, _, rfl, ?_⟩; (conv => whnf))
        | (refine And.intro (fun c => ?_) (fun c => ?_) <;> (first | (exact absurd c (by decide +kernel)) | (conv => whnf)))
        | fail)
      · clear hX hG hQ
        all_goals simp (disch := omega) only [xl_n, xl_m, nI_dec, nI_sb, xl_0, xl_1, tW_i, t_bn0, t_bn1, Classical.not_not, t_lt, nI_add, nI_1, pk_mul, nI_clamp, t_si, nI_eq, nI_leI, nM_ne, nM_ne, xm_set, xm_lv0, xm_psh] at *
        refine ih (k + 1) (by omega) (by omega) (t_ex_f hf ?_)
        simp [*]
      · clear hX hG hQ
        all_goals simp (disch := omega) only [xl_n, xl_m, nI_dec, nI_sb, xl_0, xl_1, tW_i, t_bn0, t_bn1, Classical.not_not, t_lt, nI_add, nI_1, pk_mul, nI_clamp, t_si, nI_eq, nI_leI, nM_ne, nM_ne, xm_set, xm_lv0, xm_psh] at *
        refine ih (k + 1) (by omega) (by omega) (t_ex_f hf ?_)
        rw [es k (by omega)]
        simp [*]
      · refine t_q hQ ?_
        clear hX hG hQ ih
        all_goals simp (disch := omega) only [xl_n, xl_m, nI_dec, nI_sb, xl_0, xl_1, tW_i, t_bn0, t_bn1, Classical.not_not, t_lt, nI_add, nI_1, pk_mul, nI_clamp, t_si, nI_eq, nI_leI, nM_ne, nM_ne] at *
        have e : g_mutes (tG I) u s (gn (gGK (tG I))) = true := t_ex_t hk (by rw [es k (by omega)]; simp [*])
        rw [e]
        rfl
  refine ⟨rfl, ?_⟩
  repeat' (first
    | ((with_reducible refine @And.intro (vp_in _ _) _ ?_ ?_); (· (first | with_reducible assumption | ((with_reducible refine t_vin ?_); decide) | ((with_reducible refine vp_in_nI ?_ ?_) <;> first | omega | decide) | (simp (disch := omega) only [xl_n, xl_m, nI_dec, nI_sb, nI_add, pk_mul]; (with_reducible refine vp_in_nI ?_ ?_) <;> first | omega | decide))); (conv => whnf))
    | (refine And.intro (by first | with_reducible assumption | exact (show tL _ = _ from rfl) | decide) ?_; (conv => whnf))
    | ((with_reducible refine @And.intro (_ = _) _ ?_ ?_); (· rfl); (conv => whnf))
    | ((with_reducible refine @And.intro (@LE.le Nat _ _ _) _ ?_ ?_); (· (first | exact Nat.zero_le _ | exact Nat.le_of_ble_eq_true rfl | omega)); (conv => whnf))
    | ((with_reducible refine @And.intro (@LT.lt Nat _ _ _) _ ?_ ?_); (· omega); (conv => whnf))
    | ((with_reducible refine @And.intro (∃ _, _ = _) _ ?_ ?_); (· exact ⟨_, rfl⟩); (conv => whnf))
    | ((with_reducible refine @And.intro (_ ∨ _) _ ?_ ?_); (· (first | exact Or.inl rfl | exact Or.inr rfl | exact t_b01 _ | assumption)); (conv => whnf))
    | ((with_reducible refine @And.intro (¬ (_ = _)) _ ?_ ?_); (· first | assumption | (with_reducible assumption)); (conv => whnf))
    | (refine hX _ _ _ _ _ _ ?_; (conv => whnf); fail_if_success show False)
    | (rw [t_si]; (conv => whnf))
    | (refine ⟨_, rfl, ?_⟩; (conv => whnf))
    | (refine ⟨_, _, rfl, ?_⟩; (conv => whnf))
    | (refine ⟨_, _, _, rfl, ?_⟩; (conv => whnf))
    | (refine ⟨_, _, _, _, rfl, ?_⟩; (conv => whnf))
    | (refine And.intro (fun c => ?_) (fun c => ?_) <;> (first | (exact absurd c (by decide +kernel)) | (conv => whnf)))
    | fail)
  exact loop 0 (Nat.zero_le _) rfl
theorem ct_X11_speaksWith {Iv : xI} (hI : xm_good Iv) : xm_Ct Iv yX11_speaksWith (ws_ yX11_speaksWith cX11_speaksWith 4 (some .boolean)) 2 0 0 S_X11_speaksWith := xm_enter (rt := 1) (init := false) (by decide +kernel) rfl (fun h => by cases h) (Or.inr (Or.inl ⟨rfl, Or.inl rfl⟩)) (oX11_speaksWith hI) body_X11_speaksWith
theorem cv_X11_speaksWith {Iv : xI} {own : String} {cc : ByteArray} {fr pc idx : Nat} (hI : xm_good Iv) (hdg : decode cc pc = .ok (.invokevirtual idx, 3)) (hl : xm_ml own idx yX11_speaksWith) (hfr : 2 < fr) : xm_CallOK Iv own cc fr pc (pc + 3) 3 0 0 (xm_this 8 S_X11_speaksWith) := xm_callV 8 hI (ct_X11_speaksWith hI) hdg hl q2437 qs104 q145 q2438 rfl rfl (by decide +kernel) hfr (by decide)
def q_mute (G : gG) : gR := g_says G (t_or (gm (gGK G)) fun p => g_mutes G (nI 0) (gw (gnow G) p) (gn (gGK G)))
abbrev bX11_mute_0 : List xE := [(.aload_n 0, 1, 0, 0, 0), (.iconst 0, 2, 0, 0, 0), (.putfield 134, 5, 8, 0, 0), (.iconst 0, 6, 0, 0, 0), (.istore_n 1, 7, 0, 0, 0), (.iconst 0, 8, 0, 0, 0), (.istore_n 2, 9, 0, 0, 0)]
abbrev bX11_mute_9 : List xE := [(.iload_n 2, 10, 0, 0, 0), (.aload_n 0, 11, 0, 0, 0), (.getfield 23, 14, 8, 12, 1), (.iconst 1, 15, 0, 0, 0), (.iaload, 16, 0, 0, 0), (.if_icmp .ge 35, 19, 0, 51, 0), (.iload_n 1, 20, 0, 0, 0), (.aload_n 0, 21, 0, 0, 0), (.iconst 0, 22, 0, 0, 0), (.aload_n 0, 23, 0, 0, 0), (.getfield 91, 26, 8, 36, 1), (.iconst 1, 27, 0, 0, 0), (.iload_n 2, 28, 0, 0, 0), (.iadd, 29, 0, 0, 0), (.iaload, 30, 0, 0, 0), (.invokevirtual 400, 33, 0, 0, 9), (.ifCond .ne 9, 36, 0, 42, 0), (.iconst 1, 37, 0, 0, 0), (.iload_n 2, 38, 0, 0, 0), (.ishl, 39, 0, 0, 0), (.goto 4, 42, 0, 43, 0)]
abbrev bX11_mute_42 : List xE := [(.iconst 0, 43, 0, 0, 0)]
abbrev bX11_mute_43 : List xE := [(.ior, 44, 0, 0, 0), (.istore_n 1, 45, 0, 0, 0), (.iinc 2 1, 48, 0, 0, 0), (.goto (-39), 51, 0, 9, 0)]
abbrev bX11_mute_51 : List xE := [(.iload_n 1, 52, 0, 0, 0), (.ireturn, 53, 0, 0, 0)]
abbrev kX11_mute : List (Nat × List xE) := [(0, bX11_mute_0), (9, bX11_mute_9), (42, bX11_mute_42), (43, bX11_mute_43), (51, bX11_mute_51)]
abbrev lX11_mute : List (Nat × Nat × Nat × xS) := [(3, 0, 0, xm_this 8 S_X11_speaksWith)]
theorem oX11_mute_0 {Iv : xI} (hI : xm_good Iv)  : xm_okb Iv RX11 cX11_mute false 3 lX11_mute bX11_mute_0 0 := xo_0 dX11_mute_0 rfl trivial (xo_0 dX11_mute_1 rfl trivial (xo_0 dX11_mute_2 rfl (xm_fp_of (xm_fg_of (Or.inl q1955) (by decide) rfl (by decide) rfl rfl (Or.inl rfl) rfl) (by decide) rfl (Or.inl ⟨rfl, rfl⟩) rfl) (xo_0 dX11_mute_5 rfl trivial (xo_0 dX11_mute_6 rfl trivial (xo_0 dX11_mute_7 rfl trivial (xo_0 dX11_mute_8 rfl trivial (xo_n)))))))
theorem oX11_mute_9 {Iv : xI} (hI : xm_good Iv)  : xm_okb Iv RX11 cX11_mute false 3 lX11_mute bX11_mute_9 9 := xo_0 dX11_mute_9 rfl trivial (xo_0 dX11_mute_10 rfl trivial (xo_1 dX11_mute_11 rfl (xm_fg_of (Or.inl q1967) (by decide) rfl (by decide) rfl rfl (Or.inl rfl) rfl) (xo_0 dX11_mute_14 rfl trivial (xo_0 dX11_mute_15 rfl trivial (xo_0 dX11_mute_16 rfl rfl (xo_0 dX11_mute_19 rfl trivial (xo_0 dX11_mute_20 rfl trivial (xo_0 dX11_mute_21 rfl trivial (xo_0 dX11_mute_22 rfl trivial (xo_1 dX11_mute_23 rfl (xm_fg_of (Or.inl q1991) (by decide) rfl (by decide) rfl rfl (Or.inl rfl) rfl) (xo_0 dX11_mute_26 rfl trivial (xo_0 dX11_mute_27 rfl trivial (xo_0 dX11_mute_28 rfl trivial (xo_0 dX11_mute_29 rfl trivial (xo_c rfl (cv_X11_speaksWith hI dX11_mute_30 (Or.inl q2435) (by decide)) (xo_0 dX11_mute_33 rfl rfl (xo_0 dX11_mute_36 rfl trivial (xo_0 dX11_mute_37 rfl trivial (xo_0 dX11_mute_38 rfl trivial (xo_0 dX11_mute_39 rfl rfl (xo_n)))))))))))))))))))))
theorem oX11_mute_42 {Iv : xI} (hI : xm_good Iv)  : xm_okb Iv RX11 cX11_mute false 3 lX11_mute bX11_mute_42 42 := xo_0 dX11_mute_42 rfl trivial (xo_n)
theorem oX11_mute_43 {Iv : xI} (hI : xm_good Iv)  : xm_okb Iv RX11 cX11_mute false 3 lX11_mute bX11_mute_43 43 := xo_0 dX11_mute_43 rfl trivial (xo_0 dX11_mute_44 rfl trivial (xo_0 dX11_mute_45 rfl trivial (xo_0 dX11_mute_48 rfl rfl (xo_n))))
theorem oX11_mute_51 {Iv : xI} (hI : xm_good Iv)  : xm_okb Iv RX11 cX11_mute false 3 lX11_mute bX11_mute_51 51 := xo_0 dX11_mute_51 rfl trivial (xo_0 dX11_mute_52 rfl trivial (xo_n))
theorem oX11_mute {Iv : xI} (hI : xm_good Iv)  : ∀ q ∈ kX11_mute, xm_okb Iv RX11 cX11_mute false 3 lX11_mute q.2 q.1 := by
  intro q hq
  simp only [List.mem_cons, List.not_mem_nil, or_false] at hq
  rcases hq with rfl | rfl | rfl | rfl | rfl
  · exact oX11_mute_0 hI  
  · exact oX11_mute_9 hI  
  · exact oX11_mute_42 hI  
  · exact oX11_mute_43 hI  
  · exact oX11_mute_51 hI  
def S_X11_mute : xS := tU fun as I Q => as = [.ref 0] ∧ t_good I ∧ t_P Q (q_mute (tG I))
theorem body_X11_mute : xm_Body 3 0 0 0 [] lX11_mute kX11_mute S_X11_mute := by
  intro X avs w Q QX hX0 hS
  have hG := xm_go [] hX0
  have hX := xm_go [9] hX0
  clear hX0
  obtain ⟨I, rfl, rfl, hg, hQ⟩ := hS
  refine ⟨rfl, ?_⟩
  repeat' (first
    | ((with_reducible refine @And.intro (vp_in _ _) _ ?_ ?_); (· (first | with_reducible assumption | ((with_reducible refine t_vin ?_); decide) | ((with_reducible refine vp_in_nI ?_ ?_) <;> first | omega | decide) | (simp (disch := omega) only [xl_n, xl_m, nI_dec, nI_sb, nI_add, pk_mul]; (with_reducible refine vp_in_nI ?_ ?_) <;> first | omega | decide))); (conv => whnf))
    | (refine And.intro (by first | with_reducible assumption | exact (show tL _ = _ from rfl) | decide) ?_; (conv => whnf))
    | ((with_reducible refine @And.intro (_ = _) _ ?_ ?_); (· rfl); (conv => whnf))
    | ((with_reducible refine @And.intro (@LE.le Nat _ _ _) _ ?_ ?_); (· (first | exact Nat.zero_le _ | exact Nat.le_of_ble_eq_true rfl | omega)); (conv => whnf))
    | ((with_reducible refine @And.intro (@LT.lt Nat _ _ _) _ ?_ ?_); (· omega); (conv => whnf))
    | ((with_reducible refine @And.intro (∃ _, _ = _) _ ?_ ?_); (· exact ⟨_, rfl⟩); (conv => whnf))
    | ((with_reducible refine @And.intro (_ ∨ _) _ ?_ ?_); (· (first | exact Or.inl rfl | exact Or.inr rfl | exact t_b01 _ | assumption)); (conv => whnf))
    | ((with_reducible refine @And.intro (¬ (_ = _)) _ ?_ ?_); (· first | assumption | (with_reducible assumption)); (conv => whnf))
    | (refine hX _ _ _ _ _ _ ?_; (conv => whnf); fail_if_success show False)
    | fail)
  rw [t_si]
  obtain ⟨J, hJ, hg1, hG1, h01⟩ := t_pub hg
  rw [← hJ]
  rw [← hG1] at hQ
  clear hJ hG1 hg I
  have hg := hg1
  have hok := hg.1
  have hl := hg.2.1
  have h8 := hok.2.2.2.1
  have h9 := hok.2.1
  (conv => whnf)
  have hm := hok.2.2.1
  have loop : ∀ k, k ≤ t_p J → X 9 [some (.ref 0), some (.int (t_or k fun p => g_mutes (tG J) (nI 0) (gw (tA J 36) p) (gn (gGK (tG J))))), some (.int (nI k))] [] (tW J) 0 0 := by
    refine t_for fun k h1 ih => ?_
    refine hG _ _ _ _ _ _ ?_
    (conv => whnf)
    repeat' (first
      | ((with_reducible refine @And.intro (vp_in _ _) _ ?_ ?_); (· (first | with_reducible assumption | ((with_reducible refine t_vin ?_); decide) | ((with_reducible refine vp_in_nI ?_ ?_) <;> first | omega | decide) | (simp (disch := omega) only [xl_n, xl_m, nI_dec, nI_sb, nI_add, pk_mul]; (with_reducible refine vp_in_nI ?_ ?_) <;> first | omega | decide))); (conv => whnf))
      | (refine And.intro (by first | with_reducible assumption | exact (show tL _ = _ from rfl) | decide) ?_; (conv => whnf))
      | ((with_reducible refine @And.intro (_ = _) _ ?_ ?_); (· rfl); (conv => whnf))
      | ((with_reducible refine @And.intro (@LE.le Nat _ _ _) _ ?_ ?_); (· (first | exact Nat.zero_le _ | exact Nat.le_of_ble_eq_true rfl | omega)); (conv => whnf))
      | ((with_reducible refine @And.intro (@LT.lt Nat _ _ _) _ ?_ ?_); (· omega); (conv => whnf))
      | ((with_reducible refine @And.intro (∃ _, _ = _) _ ?_ ?_); (· exact ⟨_, rfl⟩); (conv => whnf))
      | ((with_reducible refine @And.intro (_ ∨ _) _ ?_ ?_); (· (first | exact Or.inl rfl | exact Or.inr rfl | exact t_b01 _ | assumption)); (conv => whnf))
      | ((with_reducible refine @And.intro (¬ (_ = _)) _ ?_ ?_); (· first | assumption | (with_reducible assumption)); (conv => whnf))
      | (refine hX _ _ _ _ _ _ ?_; (conv => whnf); fail_if_success show False)
      | (rw [t_si]; (conv => whnf))
      | (refine ⟨_, rfl, ?_⟩; (conv => whnf))
      | (refine ⟨_, _, rfl, ?_⟩; (conv => whnf))
      | (refine ⟨_, _, _, rfl, ?_⟩; (conv => whnf))
      | (refine ⟨_, _, _, _, rfl, ?_⟩; (conv => whnf))
      | fail)
    refine And.intro (fun c => ?_) (fun c => ?_) <;> (conv => whnf)
    · repeat' (first
        | ((with_reducible refine @And.intro (vp_in _ _) _ ?_ ?_); (· (first | with_reducible assumption | ((with_reducible refine t_vin ?_); decide) | ((with_reducible refine vp_in_nI ?_ ?_) <;> first | omega | decide) | (simp (disch := omega) only [xl_n, xl_m, nI_dec, nI_sb, nI_add, pk_mul]; (with_reducible refine vp_in_nI ?_ ?_) <;> first | omega | decide))); (conv => whnf))
        | (refine And.intro (by first | with_reducible assumption | exact (show tL _ = _ from rfl) | decide) ?_; (conv => whnf))
        | ((with_reducible refine @And.intro (_ = _) _ ?_ ?_); (· rfl); (conv => whnf))
        | ((with_reducible refine @And.intro (@LE.le Nat _ _ _) _ ?_ ?_); (· (first | exact Nat.zero_le _ | exact Nat.le_of_ble_eq_true rfl | omega)); (conv => whnf))
        | ((with_reducible refine @And.intro (@LT.lt Nat _ _ _) _ ?_ ?_); (· omega); (conv => whnf))
        | ((with_reducible refine @And.intro (∃ _, _ = _) _ ?_ ?_); (· exact ⟨_, rfl⟩); (conv => whnf))
        | ((with_reducible refine @And.intro (_ ∨ _) _ ?_ ?_); (· (first | exact Or.inl rfl | exact Or.inr rfl | exact t_b01 _ | assumption)); (conv => whnf))
        | ((with_reducible refine @And.intro (¬ (_ = _)) _ ?_ ?_); (· first | assumption | (with_reducible assumption)); (conv => whnf))
        | (refine hX _ _ _ _ _ _ ?_; (conv => whnf); fail_if_success show False)
        | (rw [t_si]; (conv => whnf))
        | (refine ⟨_, rfl, ?_⟩; (conv => whnf))
        | (refine ⟨_, _, rfl, ?_⟩; (conv => whnf))
        | (refine ⟨_, _, _, rfl, ?_⟩; (conv => whnf))
        | (refine ⟨_, _, _, _, rfl, ?_⟩; (conv => whnf))
        | fail)
      have : k = t_p J := Nat.le_antisymm h1 (t_kge hm c (by omega) (by omega))
      subst this
      exact t_ask hQ hg t_sp.rf h01 rfl
    · have hk : k < t_p J := t_klt hm c (by omega)
      have := ih (k + 1) (by omega) (by omega)
      rw [t_or_s, tA_gw (by omega)] at this
      clear ih
      repeat' (first
        | ((with_reducible refine @And.intro (vp_in _ _) _ ?_ ?_); (· (first | with_reducible assumption | ((with_reducible refine t_vin ?_); decide) | ((with_reducible refine vp_in_nI ?_ ?_) <;> first | omega | decide) | (simp (disch := omega) only [xl_n, xl_m, nI_dec, nI_sb, nI_add, pk_mul]; (with_reducible refine vp_in_nI ?_ ?_) <;> first | omega | decide))); (conv => whnf))
        | (refine And.intro (by first | with_reducible assumption | exact (show tL _ = _ from rfl) | decide) ?_; (conv => whnf))
        | ((with_reducible refine @And.intro (_ = _) _ ?_ ?_); (· rfl); (conv => whnf))
        | ((with_reducible refine @And.intro (@LE.le Nat _ _ _) _ ?_ ?_); (· (first | exact Nat.zero_le _ | exact Nat.le_of_ble_eq_true rfl | omega)); (conv => whnf))
        | ((with_reducible refine @And.intro (@LT.lt Nat _ _ _) _ ?_ ?_); (· omega); (conv => whnf))
        | ((with_reducible refine @And.intro (∃ _, _ = _) _ ?_ ?_); (· exact ⟨_, rfl⟩); (conv => whnf))
        | ((with_reducible refine @And.intro (_ ∨ _) _ ?_ ?_); (· (first | exact Or.inl rfl | exact Or.inr rfl | exact t_b01 _ | assumption)); (conv => whnf))
        | ((with_reducible refine @And.intro (¬ (_ = _)) _ ?_ ?_); (· first | assumption | (with_reducible assumption)); (conv => whnf))
        | (refine hX _ _ _ _ _ _ ?_; (conv => whnf); fail_if_success show False)
        | (rw [t_si]; (conv => whnf))
        | (refine ⟨_, rfl, ?_⟩; (conv => whnf))
        | (refine ⟨_, _, rfl, ?_⟩; (conv => whnf))
        | (refine ⟨_, _, _, rfl, ?_⟩; (conv => whnf))
        | (refine ⟨_, _, _, _, rfl, ?_⟩; (conv => whnf))
        | (refine And.intro (fun c => ?_) (fun c => ?_) <;> (first | (exact absurd c (by decide +kernel)) | (conv => whnf)))
        | fail)
      all_goals clear hX hG hQ
      all_goals simp (disch := omega) only [xl_n, xl_m, nI_dec, nI_sb, xl_0, xl_1, tW_i, t_bn0, t_bn1, Classical.not_not, t_lt, nI_add, nI_1, pk_mul, nI_clamp, t_si, nI_eq, nI_leI, nM_ne, nM_ne, xm_set, xm_lv0, xm_psh] at *
      all_goals simp at c
      all_goals simpa [t_bit, c] using this
  repeat' (first
    | ((with_reducible refine @And.intro (vp_in _ _) _ ?_ ?_); (· (first | with_reducible assumption | ((with_reducible refine t_vin ?_); decide) | ((with_reducible refine vp_in_nI ?_ ?_) <;> first | omega | decide) | (simp (disch := omega) only [xl_n, xl_m, nI_dec, nI_sb, nI_add, pk_mul]; (with_reducible refine vp_in_nI ?_ ?_) <;> first | omega | decide))); (conv => whnf))
    | (refine And.intro (by first | with_reducible assumption | exact (show tL _ = _ from rfl) | decide) ?_; (conv => whnf))
    | ((with_reducible refine @And.intro (_ = _) _ ?_ ?_); (· rfl); (conv => whnf))
    | ((with_reducible refine @And.intro (@LE.le Nat _ _ _) _ ?_ ?_); (· (first | exact Nat.zero_le _ | exact Nat.le_of_ble_eq_true rfl | omega)); (conv => whnf))
    | ((with_reducible refine @And.intro (@LT.lt Nat _ _ _) _ ?_ ?_); (· omega); (conv => whnf))
    | ((with_reducible refine @And.intro (∃ _, _ = _) _ ?_ ?_); (· exact ⟨_, rfl⟩); (conv => whnf))
    | ((with_reducible refine @And.intro (_ ∨ _) _ ?_ ?_); (· (first | exact Or.inl rfl | exact Or.inr rfl | exact t_b01 _ | assumption)); (conv => whnf))
    | ((with_reducible refine @And.intro (¬ (_ = _)) _ ?_ ?_); (· first | assumption | (with_reducible assumption)); (conv => whnf))
    | (refine hX _ _ _ _ _ _ ?_; (conv => whnf); fail_if_success show False)
    | (rw [t_si]; (conv => whnf))
    | (refine ⟨_, rfl, ?_⟩; (conv => whnf))
    | (refine ⟨_, _, rfl, ?_⟩; (conv => whnf))
    | (refine ⟨_, _, _, rfl, ?_⟩; (conv => whnf))
    | (refine ⟨_, _, _, _, rfl, ?_⟩; (conv => whnf))
    | (refine And.intro (fun c => ?_) (fun c => ?_) <;> (first | (exact absurd c (by decide +kernel)) | (conv => whnf)))
    | fail)
  exact loop 0 (Nat.zero_le _)
theorem ct_X11_mute {Iv : xI} (hI : xm_good Iv) : xm_Ct Iv yX11_mute (ws_ yX11_mute cX11_mute 3 (some .int)) 3 0 0 S_X11_mute := xm_enter (rt := 0) (init := false) (by decide +kernel) rfl (fun h => by cases h) (Or.inl ⟨rfl, rfl⟩) (oX11_mute hI) body_X11_mute
theorem cv_X11_mute {Iv : xI} {own : String} {cc : ByteArray} {fr pc idx : Nat} (hI : xm_good Iv) (hdg : decode cc pc = .ok (.invokevirtual idx, 3)) (hl : xm_ml own idx yX11_mute) (hfr : 3 < fr) : xm_CallOK Iv own cc fr pc (pc + 3) 1 0 0 (xm_this 8 S_X11_mute) := xm_callV 8 hI (ct_X11_mute hI) hdg hl q2589 q2590 q145 q2591 rfl rfl (by decide +kernel) hfr (by decide)
