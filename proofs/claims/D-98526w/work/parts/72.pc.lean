/-! ===== the reference: signs, words ===== -/
set_option maxRecDepth 100000
abbrev bX11_sign_0 : List xE := [(.aload_n 0, 1, 0, 0, 0), (.getfield 150, 4, 8, 5, 0), (.ifCond .eq 4, 7, 0, 8, 0), (.return_, 8, 0, 0, 0)]
abbrev bX11_sign_8 : List xE := [(.aload_n 0, 9, 0, 0, 0), (.invokevirtual 156, 12, 0, 0, 9), (.aload_n 0, 13, 0, 0, 0), (.aload_n 0, 14, 0, 0, 0), (.getfield 143, 17, 8, 4, 0), (.invokevirtual 146, 20, 0, 1, 9), (.iload_n 1, 21, 0, 0, 0), (.if_icmp .ne 16, 24, 0, 37, 0), (.aload_n 0, 25, 0, 0, 0), (.dup, 26, 0, 0, 0), (.getfield 143, 29, 8, 4, 0), (.iconst 1, 30, 0, 0, 0), (.iadd, 31, 0, 0, 0), (.putfield 143, 34, 8, 4, 0), (.goto 12, 37, 0, 46, 0)]
abbrev bX11_sign_37 : List xE := [(.aload_n 0, 38, 0, 0, 0), (.iconst 1, 39, 0, 0, 0), (.aload_n 0, 40, 0, 0, 0), (.getfield 143, 43, 8, 4, 0), (.invokevirtual 163, 46, 0, 2, 9)]
abbrev bX11_sign_46 : List xE := [(.return_, 47, 0, 0, 0)]
abbrev kX11_sign : List (Nat × List xE) := [(0, bX11_sign_0), (8, bX11_sign_8), (37, bX11_sign_37), (46, bX11_sign_46)]
abbrev lX11_sign : List (Nat × Nat × Nat × xS) := [(1, 0, 0, xm_this 8 S_X11_blanks), (2, 0, 0, xm_this 8 S_X11_byteAt), (3, 0, 0, xm_this 8 S_X11_wrong)]
theorem oX11_sign_0 {Iv : xI} (hI : xm_good Iv)  : xm_okb Iv RX11 cX11_sign false 3 lX11_sign bX11_sign_0 0 := xo_0 dX11_sign_0 rfl trivial (xo_0 dX11_sign_1 rfl (xm_fg_of (Or.inl q1960) (by decide) rfl (by decide) rfl rfl (Or.inl rfl) rfl) (xo_0 dX11_sign_4 rfl rfl (xo_0 dX11_sign_7 rfl trivial (xo_n))))
theorem oX11_sign_8 {Iv : xI} (hI : xm_good Iv)  : xm_okb Iv RX11 cX11_sign false 3 lX11_sign bX11_sign_8 8 := xo_0 dX11_sign_8 rfl trivial (xo_c rfl (cv_X11_blanks hI dX11_sign_9 (Or.inl q2145) (by decide)) (xo_0 dX11_sign_12 rfl trivial (xo_0 dX11_sign_13 rfl trivial (xo_0 dX11_sign_14 rfl (xm_fg_of (Or.inl q1959) (by decide) rfl (by decide) rfl rfl (Or.inl rfl) rfl) (xo_c rfl (cv_X11_byteAt hI dX11_sign_17 (Or.inl q2149) (by decide)) (xo_0 dX11_sign_20 rfl trivial (xo_0 dX11_sign_21 rfl rfl (xo_0 dX11_sign_24 rfl trivial (xo_0 dX11_sign_25 rfl trivial (xo_0 dX11_sign_26 rfl (xm_fg_of (Or.inl q1959) (by decide) rfl (by decide) rfl rfl (Or.inl rfl) rfl) (xo_0 dX11_sign_29 rfl trivial (xo_0 dX11_sign_30 rfl trivial (xo_0 dX11_sign_31 rfl (xm_fp_of (xm_fg_of (Or.inl q1959) (by decide) rfl (by decide) rfl rfl (Or.inl rfl) rfl) (by decide) rfl (Or.inl ⟨rfl, rfl⟩) rfl) (xo_0 dX11_sign_34 rfl rfl (xo_n)))))))))))))))
theorem oX11_sign_37 {Iv : xI} (hI : xm_good Iv)  : xm_okb Iv RX11 cX11_sign false 3 lX11_sign bX11_sign_37 37 := xo_0 dX11_sign_37 rfl trivial (xo_0 dX11_sign_38 rfl trivial (xo_0 dX11_sign_39 rfl trivial (xo_0 dX11_sign_40 rfl (xm_fg_of (Or.inl q1959) (by decide) rfl (by decide) rfl rfl (Or.inl rfl) rfl) (xo_c rfl (cv_X11_wrong hI dX11_sign_43 (Or.inl q2178) (by decide)) (xo_n)))))
theorem oX11_sign_46 {Iv : xI} (hI : xm_good Iv)  : xm_okb Iv RX11 cX11_sign false 3 lX11_sign bX11_sign_46 46 := xo_0 dX11_sign_46 rfl trivial (xo_n)
theorem oX11_sign {Iv : xI} (hI : xm_good Iv)  : ∀ q ∈ kX11_sign, xm_okb Iv RX11 cX11_sign false 3 lX11_sign q.2 q.1 := by
  intro q hq
  simp only [List.mem_cons, List.not_mem_nil, or_false] at hq
  rcases hq with rfl | rfl | rfl | rfl
  · exact oX11_sign_0 hI  
  · exact oX11_sign_8 hI  
  · exact oX11_sign_37 hI  
  · exact oX11_sign_46 hI  
def S_X11_sign : xS := tU fun as I Q => ∃ ch, as = [.ref 0, .int ch] ∧ ∃ f n, t_tx I f n ∧ ∃ p, t_ps I n p ∧ ¬ ch = nM ∧ ∀ J, t_pf I J → t_ps J n (p_then p (p_sign f n ch)) → Q none J
theorem body_X11_sign : xm_Body 2 2 0 0 [] lX11_sign kX11_sign S_X11_sign := by
  intro X avs w Q QX hX0 hS
  have hG := xm_go [] hX0
  have hX := xm_go [] hX0
  clear hX0
  obtain ⟨I, rfl, ch, rfl, f, n, ht, p, hp, hc, hQ⟩ := hS
  have hn := ht.2.1
  match p, hp with
  | .inl (c, q), hp =>
    have h5 : ¬ I 0 5 = 0 := by rw [hp.1, ← nI_0]; exact hp.2.1
    refine ⟨rfl, ?_⟩
    repeat' (first
      | ((with_reducible refine @And.intro (vp_in _ _) _ ?_ ?_); (· (first | with_reducible assumption | ((with_reducible refine t_vin ?_); decide) | ((with_reducible refine vp_in_nI ?_ ?_) <;> first | omega | decide) | (simp (disch := omega) only [xl_n, xl_m, nI_dec, nI_sb, nI_add, pk_mul]; (with_reducible refine vp_in_nI ?_ ?_) <;> first | omega | decide))); (conv => whnf))
      | (refine And.intro (by first | with_reducible assumption | exact (show tL _ = _ from rfl) | decide) ?_; (conv => whnf))
      | ((with_reducible refine @And.intro (_ = _) _ ?_ ?_); (· rfl); (conv => whnf))
      | ((with_reducible refine @And.intro (@LE.le Nat _ _ _) _ ?_ ?_); (· (first | exact Nat.zero_le _ | exact Nat.le_of_ble_eq_true rfl | omega)); (conv => whnf))
      | ((with_reducible refine @And.intro (@LT.lt Nat _ _ _) _ ?_ ?_); (· omega); (conv => whnf))
      | ((with_reducible refine @And.intro (∃ _, _ = _) _ ?_ ?_); (· exact ⟨_, rfl⟩); (conv => whnf))
      | ((with_reducible refine @And.intro (_ ∨ _) _ ?_ ?_); (· (first | exact Or.inl rfl | exact Or.inr rfl | exact t_b01 _ | assumption)); (conv => whnf))
      | ((with_reducible refine @And.intro (¬ (_ = _)) _ ?_ ?_); (· first | assumption | (with_reducible assumption)); (conv => whnf))
      | (refine hX _ _ _ _ _ _ ?_; (conv => whnf); fail_if_success show False)
      | (rw [t_si]; (conv => whnf))
      | (refine ⟨_, rfl, ?_⟩; (conv => whnf))
      | (refine ⟨_, _, rfl, ?_⟩; (conv => whnf))
      | (refine ⟨_, _, _, rfl, ?_⟩; (conv => whnf))
      | (refine ⟨_, _, _, _, rfl, ?_⟩; (conv => whnf))
      | (refine ⟨_, _, (by with_reducible assumption), ?_⟩; (conv => whnf))
      | (refine ⟨_, (by first | with_reducible assumption | exact rfl), ?_⟩; (conv => whnf))
      | (refine And.intro (fun c => ?_) (fun c => ?_) <;> (first | (exact absurd c (by decide +kernel)) | (conv => whnf)))
      | fail)
    · exact absurd (by assumption) h5
    · exact hQ I t_pf.rf hp
  | .inr k, hp =>
    obtain ⟨h5, h4, hk⟩ := hp
    obtain ⟨hb1, hb2⟩ := p_bl_in (f := f) hk
    have hQ : ∀ J, t_pf I J → t_ps J n (p_sign f n ch k) → Q none (tW J) := hQ
    unfold p_sign at hQ
    generalize hb : p_bl f n k = b at hb1 hb2 hQ
    have hb3 : b < 2000 := by omega
    have hW : t_pf I (xm_u2 I 0 4 (nI b)) := t_pf.u (Or.inl rfl)
    have htb := hW.tx ht
    have e4 : xm_fld (tW (xm_u2 I 0 4 (nI b))) 0 4 0 = .int (nI b) := rfl
    have f5 : xm_u2 I 0 4 (nI b) 0 5 = nI 0 := by rw [xm_u2_at, if_neg (by decide)]; exact h5
    refine ⟨rfl, ?_⟩
    by_cases he : p_at f n b = ch
    · rw [if_pos he] at hQ
      have hbn : b < n := by
        rcases Nat.lt_or_ge b n with q | q
        · exact q
        · rw [p_at_f (by omega)] at he
          exact absurd he.symm hc
      have hQ := hQ (xm_u2 I 0 4 (nI (b + 1))) (t_pf.u (Or.inl rfl)) ⟨by rw [xm_u2_at, if_neg (by decide)]; exact h5, by rw [xm_u2_at, if_pos rfl], hbn⟩
      have eW : xm_u2 (xm_u2 I 0 4 (nI b)) 0 4 (xm_u2 I 0 4 (nI b) 0 4 + Int32.ofInt 1) = xm_u2 I 0 4 (nI (b + 1)) := by
        rw [xm_u2_u2, xm_u2_at, if_pos rfl, xl_n.2.1, nI_add]
      rw [← eW] at hQ
      repeat' (first
        | ((with_reducible refine @And.intro (vp_in _ _) _ ?_ ?_); (· (first | with_reducible assumption | ((with_reducible refine t_vin ?_); decide) | ((with_reducible refine vp_in_nI ?_ ?_) <;> first | omega | decide) | (simp (disch := omega) only [xl_n, xl_m, nI_dec, nI_sb, nI_add, pk_mul]; (with_reducible refine vp_in_nI ?_ ?_) <;> first | omega | decide))); (conv => whnf))
        | (refine And.intro (by first | with_reducible assumption | exact (show tL _ = _ from rfl) | decide) ?_; (conv => whnf))
        | ((with_reducible refine @And.intro (_ = _) _ ?_ ?_); (· rfl); (conv => whnf))
        | ((with_reducible refine @And.intro (@LE.le Nat _ _ _) _ ?_ ?_); (· (first | exact Nat.zero_le _ | exact Nat.le_of_ble_eq_true rfl | omega)); (conv => whnf))
        | ((with_reducible refine @And.intro (@LT.lt Nat _ _ _) _ ?_ ?_); (· omega); (conv => whnf))
        | ((with_reducible refine @And.intro (∃ _, _ = _) _ ?_ ?_); (· exact ⟨_, rfl⟩); (conv => whnf))
        | ((with_reducible refine @And.intro (_ ∨ _) _ ?_ ?_); (· (first | exact Or.inl rfl | exact Or.inr rfl | exact t_b01 _ | assumption)); (conv => whnf))
        | ((with_reducible refine @And.intro (¬ (_ = _)) _ ?_ ?_); (· first | assumption | (with_reducible assumption)); (conv => whnf))
        | (refine hX _ _ _ _ _ _ ?_; (conv => whnf); fail_if_success show False)
        | (rw [t_si]; (conv => whnf))
        | (refine ⟨_, rfl, ?_⟩; (conv => whnf))
        | (refine ⟨_, _, rfl, ?_⟩; (conv => whnf))
        | (refine ⟨_, _, _, rfl, ?_⟩; (conv => whnf))
        | (refine ⟨_, _, _, _, rfl, ?_⟩; (conv => whnf))
        | (rw [hb]; (conv => whnf))
        | (rw [e4]; (conv => whnf))
        | (rw [he]; (conv => whnf))
        | (refine ⟨_, _, (by with_reducible assumption), ?_⟩; (conv => whnf))
        | (refine ⟨_, (by first | with_reducible assumption | exact rfl), ?_⟩; (conv => whnf))
        | (refine And.intro (fun c => ?_) (fun c => ?_) <;> (first | (exact absurd c (by decide +kernel)) | (conv => whnf)))
        | fail)
      · exact absurd rfl (show ¬ ch = ch by assumption)
      · exact absurd rfl (show ¬ ch = ch by assumption)
      · exact hQ
      · exact absurd (h5.trans nI_0) (by assumption)
    · rw [if_neg he] at hQ
      have hQ := hQ (xm_u2 (xm_u2 (xm_u2 I 0 4 (nI b)) 0 5 (nI 1)) 0 6 (nI b)) (hW.tr ((t_pf.u (Or.inr (Or.inl rfl))).tr (t_pf.u (Or.inr (Or.inr rfl))))) ⟨rfl, by decide +kernel, rfl, b, hb2, rfl⟩
      repeat' (first
        | ((with_reducible refine @And.intro (vp_in _ _) _ ?_ ?_); (· (first | with_reducible assumption | ((with_reducible refine t_vin ?_); decide) | ((with_reducible refine vp_in_nI ?_ ?_) <;> first | omega | decide) | (simp (disch := omega) only [xl_n, xl_m, nI_dec, nI_sb, nI_add, pk_mul]; (with_reducible refine vp_in_nI ?_ ?_) <;> first | omega | decide))); (conv => whnf))
        | (refine And.intro (by first | with_reducible assumption | exact (show tL _ = _ from rfl) | decide) ?_; (conv => whnf))
        | ((with_reducible refine @And.intro (_ = _) _ ?_ ?_); (· rfl); (conv => whnf))
        | ((with_reducible refine @And.intro (@LE.le Nat _ _ _) _ ?_ ?_); (· (first | exact Nat.zero_le _ | exact Nat.le_of_ble_eq_true rfl | omega)); (conv => whnf))
        | ((with_reducible refine @And.intro (@LT.lt Nat _ _ _) _ ?_ ?_); (· omega); (conv => whnf))
        | ((with_reducible refine @And.intro (∃ _, _ = _) _ ?_ ?_); (· exact ⟨_, rfl⟩); (conv => whnf))
        | ((with_reducible refine @And.intro (_ ∨ _) _ ?_ ?_); (· (first | exact Or.inl rfl | exact Or.inr rfl | exact t_b01 _ | assumption)); (conv => whnf))
        | ((with_reducible refine @And.intro (¬ (_ = _)) _ ?_ ?_); (· first | assumption | (with_reducible assumption)); (conv => whnf))
        | (refine hX _ _ _ _ _ _ ?_; (conv => whnf); fail_if_success show False)
        | (rw [t_si]; (conv => whnf))
        | (refine ⟨_, rfl, ?_⟩; (conv => whnf))
        | (refine ⟨_, _, rfl, ?_⟩; (conv => whnf))
        | (refine ⟨_, _, _, rfl, ?_⟩; (conv => whnf))
        | (refine ⟨_, _, _, _, rfl, ?_⟩; (conv => whnf))
        | (rw [hb]; (conv => whnf))
        | (rw [e4]; (conv => whnf))
        | (refine ⟨_, _, (by with_reducible assumption), ?_⟩; (conv => whnf))
        | (refine ⟨_, (by first | with_reducible assumption | exact rfl), ?_⟩; (conv => whnf))
        | (refine And.intro (fun c => ?_) (fun c => ?_) <;> (first | (exact absurd c (by decide +kernel)) | (conv => whnf)))
        | fail)
      · exact hQ
      · exact absurd f5 (by assumption)
      · exact absurd (Classical.not_not.mp (by assumption)) he
      · exact absurd (h5.trans nI_0) (by assumption)
theorem ct_X11_sign {Iv : xI} (hI : xm_good Iv) : xm_Ct Iv yX11_sign (ws_ yX11_sign cX11_sign 2 none) 3 0 0 S_X11_sign := xm_enter (rt := 2) (init := false) (by decide +kernel) rfl (fun h => by cases h) (Or.inr (Or.inr (Or.inl ⟨rfl, rfl⟩))) (oX11_sign hI) body_X11_sign
theorem cv_X11_sign {Iv : xI} {own : String} {cc : ByteArray} {fr pc idx : Nat} (hI : xm_good Iv) (hdg : decode cc pc = .ok (.invokevirtual idx, 3)) (hl : xm_ml own idx yX11_sign) (hfr : 3 < fr) : xm_CallOK Iv own cc fr pc (pc + 3) 2 0 0 (xm_this 8 S_X11_sign) := xm_callV 8 hI (ct_X11_sign hI) hdg hl q2234 qs72 q145 q2235 rfl rfl (by decide +kernel) hfr (by decide)
def p_tks (f : Nat → Int32) (n : Nat) (c : Int32) (k : Nat) : Bool × Nat := if p_at f n (p_bl f n k) = c then (true, p_bl f n k + 1) else (false, p_bl f n k)
def p_tkb (p : pP) (g : Nat → Bool × Nat) : Bool := match p with
  | .inl _ => false
  | .inr k => (g k).1
abbrev bX11_takesSign_0 : List xE := [(.aload_n 0, 1, 0, 0, 0), (.getfield 150, 4, 8, 5, 0), (.ifCond .eq 5, 7, 0, 9, 0), (.iconst 0, 8, 0, 0, 0), (.ireturn, 9, 0, 0, 0)]
abbrev bX11_takesSign_9 : List xE := [(.aload_n 0, 10, 0, 0, 0), (.invokevirtual 156, 13, 0, 0, 9), (.aload_n 0, 14, 0, 0, 0), (.aload_n 0, 15, 0, 0, 0), (.getfield 143, 18, 8, 4, 0), (.invokevirtual 146, 21, 0, 1, 9), (.iload_n 1, 22, 0, 0, 0), (.if_icmp .ne 7, 25, 0, 29, 0), (.iconst 1, 26, 0, 0, 0), (.goto 4, 29, 0, 30, 0)]
abbrev bX11_takesSign_29 : List xE := [(.iconst 0, 30, 0, 0, 0)]
abbrev bX11_takesSign_30 : List xE := [(.istore_n 2, 31, 0, 0, 0), (.iload_n 2, 32, 0, 0, 0), (.ifCond .eq 13, 35, 0, 45, 0), (.aload_n 0, 36, 0, 0, 0), (.dup, 37, 0, 0, 0), (.getfield 143, 40, 8, 4, 0), (.iconst 1, 41, 0, 0, 0), (.iadd, 42, 0, 0, 0), (.putfield 143, 45, 8, 4, 0)]
abbrev bX11_takesSign_45 : List xE := [(.iload_n 2, 46, 0, 0, 0), (.ireturn, 47, 0, 0, 0)]
abbrev kX11_takesSign : List (Nat × List xE) := [(0, bX11_takesSign_0), (9, bX11_takesSign_9), (29, bX11_takesSign_29), (30, bX11_takesSign_30), (45, bX11_takesSign_45)]
abbrev lX11_takesSign : List (Nat × Nat × Nat × xS) := [(1, 0, 0, xm_this 8 S_X11_blanks), (2, 0, 0, xm_this 8 S_X11_byteAt)]
theorem oX11_takesSign_0 {Iv : xI} (hI : xm_good Iv)  : xm_okb Iv RX11 cX11_takesSign false 3 lX11_takesSign bX11_takesSign_0 0 := xo_0 dX11_takesSign_0 rfl trivial (xo_0 dX11_takesSign_1 rfl (xm_fg_of (Or.inl q1960) (by decide) rfl (by decide) rfl rfl (Or.inl rfl) rfl) (xo_0 dX11_takesSign_4 rfl rfl (xo_0 dX11_takesSign_7 rfl trivial (xo_0 dX11_takesSign_8 rfl trivial (xo_n)))))
theorem oX11_takesSign_9 {Iv : xI} (hI : xm_good Iv)  : xm_okb Iv RX11 cX11_takesSign false 3 lX11_takesSign bX11_takesSign_9 9 := xo_0 dX11_takesSign_9 rfl trivial (xo_c rfl (cv_X11_blanks hI dX11_takesSign_10 (Or.inl q2145) (by decide)) (xo_0 dX11_takesSign_13 rfl trivial (xo_0 dX11_takesSign_14 rfl trivial (xo_0 dX11_takesSign_15 rfl (xm_fg_of (Or.inl q1959) (by decide) rfl (by decide) rfl rfl (Or.inl rfl) rfl) (xo_c rfl (cv_X11_byteAt hI dX11_takesSign_18 (Or.inl q2149) (by decide)) (xo_0 dX11_takesSign_21 rfl trivial (xo_0 dX11_takesSign_22 rfl rfl (xo_0 dX11_takesSign_25 rfl trivial (xo_0 dX11_takesSign_26 rfl rfl (xo_n))))))))))
theorem oX11_takesSign_29 {Iv : xI} (hI : xm_good Iv)  : xm_okb Iv RX11 cX11_takesSign false 3 lX11_takesSign bX11_takesSign_29 29 := xo_0 dX11_takesSign_29 rfl trivial (xo_n)
theorem oX11_takesSign_30 {Iv : xI} (hI : xm_good Iv)  : xm_okb Iv RX11 cX11_takesSign false 3 lX11_takesSign bX11_takesSign_30 30 := xo_0 dX11_takesSign_30 rfl trivial (xo_0 dX11_takesSign_31 rfl trivial (xo_0 dX11_takesSign_32 rfl rfl (xo_0 dX11_takesSign_35 rfl trivial (xo_0 dX11_takesSign_36 rfl trivial (xo_0 dX11_takesSign_37 rfl (xm_fg_of (Or.inl q1959) (by decide) rfl (by decide) rfl rfl (Or.inl rfl) rfl) (xo_0 dX11_takesSign_40 rfl trivial (xo_0 dX11_takesSign_41 rfl trivial (xo_0 dX11_takesSign_42 rfl (xm_fp_of (xm_fg_of (Or.inl q1959) (by decide) rfl (by decide) rfl rfl (Or.inl rfl) rfl) (by decide) rfl (Or.inl ⟨rfl, rfl⟩) rfl) (xo_n)))))))))
theorem oX11_takesSign_45 {Iv : xI} (hI : xm_good Iv)  : xm_okb Iv RX11 cX11_takesSign false 3 lX11_takesSign bX11_takesSign_45 45 := xo_0 dX11_takesSign_45 rfl trivial (xo_0 dX11_takesSign_46 rfl trivial (xo_n))
theorem oX11_takesSign {Iv : xI} (hI : xm_good Iv)  : ∀ q ∈ kX11_takesSign, xm_okb Iv RX11 cX11_takesSign false 3 lX11_takesSign q.2 q.1 := by
  intro q hq
  simp only [List.mem_cons, List.not_mem_nil, or_false] at hq
  rcases hq with rfl | rfl | rfl | rfl | rfl
  · exact oX11_takesSign_0 hI  
  · exact oX11_takesSign_9 hI  
  · exact oX11_takesSign_29 hI  
  · exact oX11_takesSign_30 hI  
  · exact oX11_takesSign_45 hI  
def S_X11_takesSign : xS := tU fun as I Q => ∃ ch, as = [.ref 0, .int ch] ∧ ∃ f n, t_tx I f n ∧ ∃ p, t_ps I n p ∧ ¬ ch = nM ∧ ∀ J, t_pf I J → t_ps J n (p_then p fun k => .inr (p_tks f n ch k).2) → Q (some (.int (t_b (p_tkb p (p_tks f n ch))))) J
theorem body_X11_takesSign : xm_Body 3 1 0 0 [] lX11_takesSign kX11_takesSign S_X11_takesSign := by
  intro X avs w Q QX hX0 hS
  have hG := xm_go [] hX0
  have hX := xm_go [] hX0
  clear hX0
  obtain ⟨I, rfl, ch, rfl, f, n, ht, p, hp, hc, hQ⟩ := hS
  have hn := ht.2.1
  match p, hp with
  | .inl (c, q), hp =>
    have h5 : ¬ I 0 5 = 0 := by rw [hp.1, ← nI_0]; exact hp.2.1
    refine ⟨rfl, ?_⟩
    repeat' (first
      | ((with_reducible refine @And.intro (vp_in _ _) _ ?_ ?_); (· (first | with_reducible assumption | ((with_reducible refine t_vin ?_); decide) | ((with_reducible refine vp_in_nI ?_ ?_) <;> first | omega | decide) | (simp (disch := omega) only [xl_n, xl_m, nI_dec, nI_sb, nI_add, pk_mul]; (with_reducible refine vp_in_nI ?_ ?_) <;> first | omega | decide))); (conv => whnf))
      | (refine And.intro (by first | with_reducible assumption | exact (show tL _ = _ from rfl) | decide) ?_; (conv => whnf))
      | ((with_reducible refine @And.intro (_ = _) _ ?_ ?_); (· rfl); (conv => whnf))
      | ((with_reducible refine @And.intro (@LE.le Nat _ _ _) _ ?_ ?_); (· (first | exact Nat.zero_le _ | exact Nat.le_of_ble_eq_true rfl | omega)); (conv => whnf))
      | ((with_reducible refine @And.intro (@LT.lt Nat _ _ _) _ ?_ ?_); (· omega); (conv => whnf))
      | ((with_reducible refine @And.intro (∃ _, _ = _) _ ?_ ?_); (· exact ⟨_, rfl⟩); (conv => whnf))
      | ((with_reducible refine @And.intro (_ ∨ _) _ ?_ ?_); (· (first | exact Or.inl rfl | exact Or.inr rfl | exact t_b01 _ | assumption)); (conv => whnf))
      | ((with_reducible refine @And.intro (¬ (_ = _)) _ ?_ ?_); (· first | assumption | (with_reducible assumption)); (conv => whnf))
      | (refine hX _ _ _ _ _ _ ?_; (conv => whnf); fail_if_success show False)
      | (rw [t_si]; (conv => whnf))
      | (refine ⟨_, rfl, ?_⟩; (conv => whnf))
      | (refine ⟨_, _, rfl, ?_⟩; (conv => whnf))
      | (refine ⟨_, _, _, rfl, ?_⟩; (conv => whnf))
      | (refine ⟨_, _, _, _, rfl, ?_⟩; (conv => whnf))
      | (refine ⟨_, _, (by with_reducible assumption), ?_⟩; (conv => whnf))
      | (refine ⟨_, (by first | with_reducible assumption | exact rfl), ?_⟩; (conv => whnf))
      | (refine And.intro (fun c => ?_) (fun c => ?_) <;> (first | (exact absurd c (by decide +kernel)) | (conv => whnf)))
      | fail)
    · exact absurd (by assumption) h5
    · exact hQ I t_pf.rf hp
  | .inr k, hp =>
    obtain ⟨h5, h4, hk⟩ := hp
    obtain ⟨hb1, hb2⟩ := p_bl_in (f := f) hk
    have hQ : ∀ J, t_pf I J → t_ps J n (.inr (p_tks f n ch k).2) → Q (some (.int (t_b (p_tks f n ch k).1))) (tW J) := hQ
    unfold p_tks at hQ
    generalize hb : p_bl f n k = b at hb1 hb2 hQ
    have hb3 : b < 2000 := by omega
    have hW : t_pf I (xm_u2 I 0 4 (nI b)) := t_pf.u (Or.inl rfl)
    have htb := hW.tx ht
    have e4 : xm_fld (tW (xm_u2 I 0 4 (nI b))) 0 4 0 = .int (nI b) := rfl
    have f5 : xm_u2 I 0 4 (nI b) 0 5 = nI 0 := by rw [xm_u2_at, if_neg (by decide)]; exact h5
    refine ⟨rfl, ?_⟩
    by_cases he : p_at f n b = ch
    · rw [if_pos he] at hQ
      have hbn : b < n := by
        rcases Nat.lt_or_ge b n with q | q
        · exact q
        · rw [p_at_f (by omega)] at he
          exact absurd he.symm hc
      have hQ := hQ (xm_u2 I 0 4 (nI (b + 1))) (t_pf.u (Or.inl rfl)) ⟨by rw [xm_u2_at, if_neg (by decide)]; exact h5, by rw [xm_u2_at, if_pos rfl], hbn⟩
      have eW : xm_u2 (xm_u2 I 0 4 (nI b)) 0 4 (xm_u2 I 0 4 (nI b) 0 4 + Int32.ofInt 1) = xm_u2 I 0 4 (nI (b + 1)) := by
        rw [xm_u2_u2, xm_u2_at, if_pos rfl, xl_n.2.1, nI_add]
      rw [← eW] at hQ
      repeat' (first
        | ((with_reducible refine @And.intro (vp_in _ _) _ ?_ ?_); (· (first | with_reducible assumption | ((with_reducible refine t_vin ?_); decide) | ((with_reducible refine vp_in_nI ?_ ?_) <;> first | omega | decide) | (simp (disch := omega) only [xl_n, xl_m, nI_dec, nI_sb, nI_add, pk_mul]; (with_reducible refine vp_in_nI ?_ ?_) <;> first | omega | decide))); (conv => whnf))
        | (refine And.intro (by first | with_reducible assumption | exact (show tL _ = _ from rfl) | decide) ?_; (conv => whnf))
        | ((with_reducible refine @And.intro (_ = _) _ ?_ ?_); (· rfl); (conv => whnf))
        | ((with_reducible refine @And.intro (@LE.le Nat _ _ _) _ ?_ ?_); (· (first | exact Nat.zero_le _ | exact Nat.le_of_ble_eq_true rfl | omega)); (conv => whnf))
        | ((with_reducible refine @And.intro (@LT.lt Nat _ _ _) _ ?_ ?_); (· omega); (conv => whnf))
        | ((with_reducible refine @And.intro (∃ _, _ = _) _ ?_ ?_); (· exact ⟨_, rfl⟩); (conv => whnf))
        | ((with_reducible refine @And.intro (_ ∨ _) _ ?_ ?_); (· (first | exact Or.inl rfl | exact Or.inr rfl | exact t_b01 _ | assumption)); (conv => whnf))
        | ((with_reducible refine @And.intro (¬ (_ = _)) _ ?_ ?_); (· first | assumption | (with_reducible assumption)); (conv => whnf))
        | (refine hX _ _ _ _ _ _ ?_; (conv => whnf); fail_if_success show False)
        | (rw [t_si]; (conv => whnf))
        | (refine ⟨_, rfl, ?_⟩; (conv => whnf))
        | (refine ⟨_, _, rfl, ?_⟩; (conv => whnf))
        | (refine ⟨_, _, _, rfl, ?_⟩; (conv => whnf))
        | (refine ⟨_, _, _, _, rfl, ?_⟩; (conv => whnf))
        | (rw [hb]; (conv => whnf))
        | (rw [e4]; (conv => whnf))
        | (rw [he]; (conv => whnf))
        | (refine ⟨_, _, (by with_reducible assumption), ?_⟩; (conv => whnf))
        | (refine ⟨_, (by first | with_reducible assumption | exact rfl), ?_⟩; (conv => whnf))
        | (refine And.intro (fun c => ?_) (fun c => ?_) <;> (first | (exact absurd c (by decide +kernel)) | (conv => whnf)))
        | fail)
      · exact absurd rfl (show ¬ ch = ch by assumption)
      · exact hQ
      · exact absurd (h5.trans nI_0) (by assumption)
    · rw [if_neg he] at hQ
      have hQ := hQ (xm_u2 I 0 4 (nI b)) hW ⟨f5, rfl, hb2⟩
      repeat' (first
        | ((with_reducible refine @And.intro (vp_in _ _) _ ?_ ?_); (· (first | with_reducible assumption | ((with_reducible refine t_vin ?_); decide) | ((with_reducible refine vp_in_nI ?_ ?_) <;> first | omega | decide) | (simp (disch := omega) only [xl_n, xl_m, nI_dec, nI_sb, nI_add, pk_mul]; (with_reducible refine vp_in_nI ?_ ?_) <;> first | omega | decide))); (conv => whnf))
        | (refine And.intro (by first | with_reducible assumption | exact (show tL _ = _ from rfl) | decide) ?_; (conv => whnf))
        | ((with_reducible refine @And.intro (_ = _) _ ?_ ?_); (· rfl); (conv => whnf))
        | ((with_reducible refine @And.intro (@LE.le Nat _ _ _) _ ?_ ?_); (· (first | exact Nat.zero_le _ | exact Nat.le_of_ble_eq_true rfl | omega)); (conv => whnf))
        | ((with_reducible refine @And.intro (@LT.lt Nat _ _ _) _ ?_ ?_); (· omega); (conv => whnf))
        | ((with_reducible refine @And.intro (∃ _, _ = _) _ ?_ ?_); (· exact ⟨_, rfl⟩); (conv => whnf))
        | ((with_reducible refine @And.intro (_ ∨ _) _ ?_ ?_); (· (first | exact Or.inl rfl | exact Or.inr rfl | exact t_b01 _ | assumption)); (conv => whnf))
        | ((with_reducible refine @And.intro (¬ (_ = _)) _ ?_ ?_); (· first | assumption | (with_reducible assumption)); (conv => whnf))
        | (refine hX _ _ _ _ _ _ ?_; (conv => whnf); fail_if_success show False)
        | (rw [t_si]; (conv => whnf))
        | (refine ⟨_, rfl, ?_⟩; (conv => whnf))
        | (refine ⟨_, _, rfl, ?_⟩; (conv => whnf))
        | (refine ⟨_, _, _, rfl, ?_⟩; (conv => whnf))
        | (refine ⟨_, _, _, _, rfl, ?_⟩; (conv => whnf))
        | (rw [hb]; (conv => whnf))
        | (rw [e4]; (conv => whnf))
        | (refine ⟨_, _, (by with_reducible assumption), ?_⟩; (conv => whnf))
        | (refine ⟨_, (by first | with_reducible assumption | exact rfl), ?_⟩; (conv => whnf))
        | (refine And.intro (fun c => ?_) (fun c => ?_) <;> (first | (exact absurd c (by decide +kernel)) | (conv => whnf)))
        | fail)
      · exact hQ
      · exact absurd (Classical.not_not.mp (by assumption)) he
      · exact absurd (h5.trans nI_0) (by assumption)
theorem ct_X11_takesSign {Iv : xI} (hI : xm_good Iv) : xm_Ct Iv yX11_takesSign (ws_ yX11_takesSign cX11_takesSign 3 (some .boolean)) 3 0 0 S_X11_takesSign := xm_enter (rt := 1) (init := false) (by decide +kernel) rfl (fun h => by cases h) (Or.inr (Or.inl ⟨rfl, Or.inl rfl⟩)) (oX11_takesSign hI) body_X11_takesSign
theorem cv_X11_takesSign {Iv : xI} {own : String} {cc : ByteArray} {fr pc idx : Nat} (hI : xm_good Iv) (hdg : decode cc pc = .ok (.invokevirtual idx, 3)) (hl : xm_ml own idx yX11_takesSign) (hfr : 3 < fr) : xm_CallOK Iv own cc fr pc (pc + 3) 2 0 0 (xm_this 8 S_X11_takesSign) := xm_callV 8 hI (ct_X11_takesSign hI) hdg hl q2274 qs81 q145 q2275 rfl rfl (by decide +kernel) hfr (by decide)
abbrev bX11_starts_0 : List xE := [(.aload_n 0, 1, 0, 0, 0), (.iconst 0, 2, 0, 0, 0), (.putfield 137, 5, 8, 1, 0), (.aload_n 0, 6, 0, 0, 0), (.iload_n 1, 7, 0, 0, 0), (.putfield 140, 10, 8, 2, 0), (.aload_n 0, 11, 0, 0, 0), (.iconst 0, 12, 0, 0, 0), (.putfield 143, 15, 8, 4, 0), (.aload_n 0, 16, 0, 0, 0), (.iconst 0, 17, 0, 0, 0), (.putfield 150, 20, 8, 5, 0), (.aload_n 0, 21, 0, 0, 0), (.iconst (-1), 22, 0, 0, 0), (.putfield 153, 25, 8, 6, 0), (.aload_n 0, 26, 0, 0, 0), (.iconst 0, 27, 0, 0, 0), (.putfield 196, 30, 8, 7, 0), (.aload_n 0, 31, 0, 0, 0), (.iconst 0, 32, 0, 0, 0), (.putfield 199, 35, 8, 8, 0), (.aload_n 0, 36, 0, 0, 0), (.invokevirtual 156, 39, 0, 0, 9), (.return_, 40, 0, 0, 0)]
abbrev kX11_starts : List (Nat × List xE) := [(0, bX11_starts_0)]
abbrev lX11_starts : List (Nat × Nat × Nat × xS) := [(1, 0, 0, xm_this 8 S_X11_blanks)]
theorem oX11_starts_0 {Iv : xI} (hI : xm_good Iv)  : xm_okb Iv RX11 cX11_starts false 3 lX11_starts bX11_starts_0 0 := xo_0 dX11_starts_0 rfl trivial (xo_0 dX11_starts_1 rfl trivial (xo_0 dX11_starts_2 rfl (xm_fp_of (xm_fg_of (Or.inl q1956) (by decide) rfl (by decide) rfl rfl (Or.inl rfl) rfl) (by decide) rfl (Or.inl ⟨rfl, rfl⟩) rfl) (xo_0 dX11_starts_5 rfl trivial (xo_0 dX11_starts_6 rfl trivial (xo_0 dX11_starts_7 rfl (xm_fp_of (xm_fg_of (Or.inl q1957) (by decide) rfl (by decide) rfl rfl (Or.inl rfl) rfl) (by decide) rfl (Or.inl ⟨rfl, rfl⟩) rfl) (xo_0 dX11_starts_10 rfl trivial (xo_0 dX11_starts_11 rfl trivial (xo_0 dX11_starts_12 rfl (xm_fp_of (xm_fg_of (Or.inl q1959) (by decide) rfl (by decide) rfl rfl (Or.inl rfl) rfl) (by decide) rfl (Or.inl ⟨rfl, rfl⟩) rfl) (xo_0 dX11_starts_15 rfl trivial (xo_0 dX11_starts_16 rfl trivial (xo_0 dX11_starts_17 rfl (xm_fp_of (xm_fg_of (Or.inl q1960) (by decide) rfl (by decide) rfl rfl (Or.inl rfl) rfl) (by decide) rfl (Or.inl ⟨rfl, rfl⟩) rfl) (xo_0 dX11_starts_20 rfl trivial (xo_0 dX11_starts_21 rfl trivial (xo_0 dX11_starts_22 rfl (xm_fp_of (xm_fg_of (Or.inl q1961) (by decide) rfl (by decide) rfl rfl (Or.inl rfl) rfl) (by decide) rfl (Or.inl ⟨rfl, rfl⟩) rfl) (xo_0 dX11_starts_25 rfl trivial (xo_0 dX11_starts_26 rfl trivial (xo_0 dX11_starts_27 rfl (xm_fp_of (xm_fg_of (Or.inl q1962) (by decide) rfl (by decide) rfl rfl (Or.inl rfl) rfl) (by decide) rfl (Or.inl ⟨rfl, rfl⟩) rfl) (xo_0 dX11_starts_30 rfl trivial (xo_0 dX11_starts_31 rfl trivial (xo_0 dX11_starts_32 rfl (xm_fp_of (xm_fg_of (Or.inl q1963) (by decide) rfl (by decide) rfl rfl (Or.inl rfl) rfl) (by decide) rfl (Or.inl ⟨rfl, rfl⟩) rfl) (xo_0 dX11_starts_35 rfl trivial (xo_c rfl (cv_X11_blanks hI dX11_starts_36 (Or.inl q2145) (by decide)) (xo_0 dX11_starts_39 rfl trivial (xo_n))))))))))))))))))))))))
theorem oX11_starts {Iv : xI} (hI : xm_good Iv)  : ∀ q ∈ kX11_starts, xm_okb Iv RX11 cX11_starts false 3 lX11_starts q.2 q.1 := by
  intro q hq
  simp only [List.mem_cons, List.not_mem_nil, or_false] at hq
  subst hq
  exact oX11_starts_0 hI  
/-- a text of n begins -/
def t_begun (I : tI) (n : Nat) (J : tI) : Prop := (∀ b, b ≠ 0 → J b = I b) ∧ (∀ k, k ≠ 1 → k ≠ 2 → k ≠ 4 → k ≠ 5 → k ≠ 6 → k ≠ 7 → k ≠ 8 → J 0 k = I 0 k) ∧ J 0 1 = nI 0 ∧ J 0 2 = nI n ∧ J 0 4 = nI (p_bl (I 9) n 0) ∧ J 0 5 = nI 0 ∧ J 0 6 = nM ∧ J 0 7 = nI 0 ∧ J 0 8 = nI 0
def S_X11_starts : xS := tU fun as I Q => ∃ n, as = [.ref 0, .int (nI n)] ∧ n ≤ 600 ∧ ∀ J, t_begun I n J → Q none J
theorem body_X11_starts : xm_Body 2 2 0 0 [] lX11_starts kX11_starts S_X11_starts := by
  intro X avs w Q QX hX0 hS
  have hG := xm_go [] hX0
  have hX := xm_go [] hX0
  clear hX0
  obtain ⟨I, rfl, n, rfl, hn, hQ⟩ := hS
  have ht : ∀ M : tI, M 9 = I 9 → M 0 2 = nI n → t_tx M (I 9) n := fun M h1 h2 => ⟨h2, hn, fun k _ => by rw [h1]⟩
  refine ⟨rfl, ?_⟩
  repeat' (first
    | ((with_reducible refine @And.intro (vp_in _ _) _ ?_ ?_); (· (first | with_reducible assumption | ((with_reducible refine t_vin ?_); decide) | ((with_reducible refine vp_in_nI ?_ ?_) <;> first | omega | decide) | (simp (disch := omega) only [xl_n, xl_m, nI_dec, nI_sb, nI_add, pk_mul]; (with_reducible refine vp_in_nI ?_ ?_) <;> first | omega | decide))); (conv => whnf))
    | (refine And.intro (by first | with_reducible assumption | exact (show tL _ = _ from rfl) | decide) ?_; (conv => whnf))
    | ((with_reducible refine @And.intro (_ = _) _ ?_ ?_); (· rfl); (conv => whnf))
    | ((with_reducible refine @And.intro (@LE.le Nat _ _ _) _ ?_ ?_); (· (first | exact Nat.zero_le _ | exact Nat.le_of_ble_eq_true rfl | omega)); (conv => whnf))
    | ((with_reducible refine @And.intro (@LT.lt Nat _ _ _) _ ?_ ?_); (· omega); (conv => whnf))
    | ((with_reducible refine @And.intro (∃ _, _ = _) _ ?_ ?_); (· exact ⟨_, rfl⟩); (conv => whnf))
    | ((with_reducible refine @And.intro (_ ∨ _) _ ?_ ?_); (· (first | exact Or.inl rfl | exact Or.inr rfl | exact t_b01 _ | assumption)); (conv => whnf))
    | ((with_reducible refine @And.intro (¬ (_ = _)) _ ?_ ?_); (· first | assumption | (with_reducible assumption)); (conv => whnf))
    | (refine hX _ _ _ _ _ _ ?_; (conv => whnf); fail_if_success show False)
    | (rw [t_si]; (conv => whnf))
    | (refine ⟨_, rfl, ?_⟩; (conv => whnf))
    | (refine ⟨_, _, rfl, ?_⟩; (conv => whnf))
    | (refine ⟨_, _, _, rfl, ?_⟩; (conv => whnf))
    | (refine ⟨_, _, _, _, rfl, ?_⟩; (conv => whnf))
    | (refine And.intro (fun c => ?_) (fun c => ?_) <;> (first | (exact absurd c (by decide +kernel)) | (conv => whnf)))
    | fail)
  refine ⟨I 9, n, ht _ (funext fun j => by simp only [xm_u2_ne (show (9 : Nat) ≠ 0 by decide)]) rfl, 0, rfl, Nat.zero_le _, ?_⟩
  (conv => whnf)
  repeat' (first
    | ((with_reducible refine @And.intro (vp_in _ _) _ ?_ ?_); (· (first | with_reducible assumption | ((with_reducible refine t_vin ?_); decide) | ((with_reducible refine vp_in_nI ?_ ?_) <;> first | omega | decide) | (simp (disch := omega) only [xl_n, xl_m, nI_dec, nI_sb, nI_add, pk_mul]; (with_reducible refine vp_in_nI ?_ ?_) <;> first | omega | decide))); (conv => whnf))
    | (refine And.intro (by first | with_reducible assumption | exact (show tL _ = _ from rfl) | decide) ?_; (conv => whnf))
    | ((with_reducible refine @And.intro (_ = _) _ ?_ ?_); (· rfl); (conv => whnf))
    | ((with_reducible refine @And.intro (@LE.le Nat _ _ _) _ ?_ ?_); (· (first | exact Nat.zero_le _ | exact Nat.le_of_ble_eq_true rfl | omega)); (conv => whnf))
    | ((with_reducible refine @And.intro (@LT.lt Nat _ _ _) _ ?_ ?_); (· omega); (conv => whnf))
    | ((with_reducible refine @And.intro (∃ _, _ = _) _ ?_ ?_); (· exact ⟨_, rfl⟩); (conv => whnf))
    | ((with_reducible refine @And.intro (_ ∨ _) _ ?_ ?_); (· (first | exact Or.inl rfl | exact Or.inr rfl | exact t_b01 _ | assumption)); (conv => whnf))
    | ((with_reducible refine @And.intro (¬ (_ = _)) _ ?_ ?_); (· first | assumption | (with_reducible assumption)); (conv => whnf))
    | (refine hX _ _ _ _ _ _ ?_; (conv => whnf); fail_if_success show False)
    | (rw [t_si]; (conv => whnf))
    | (refine ⟨_, rfl, ?_⟩; (conv => whnf))
    | (refine ⟨_, _, rfl, ?_⟩; (conv => whnf))
    | (refine ⟨_, _, _, rfl, ?_⟩; (conv => whnf))
    | (refine ⟨_, _, _, _, rfl, ?_⟩; (conv => whnf))
    | (refine And.intro (fun c => ?_) (fun c => ?_) <;> (first | (exact absurd c (by decide +kernel)) | (conv => whnf)))
    | fail)
  refine hQ _ ⟨fun b hb => funext fun j => by simp only [xm_u2_ne hb], fun k h1 h2 h4 h5 h6 h7 h8 => by simp only [xm_u2_at, h1, h2, h4, h5, h6, h7, h8, if_false], rfl, rfl, rfl, rfl, rfl, rfl, rfl⟩
theorem ct_X11_starts {Iv : xI} (hI : xm_good Iv) : xm_Ct Iv yX11_starts (ws_ yX11_starts cX11_starts 2 none) 3 0 0 S_X11_starts := xm_enter (rt := 2) (init := false) (by decide +kernel) rfl (fun h => by cases h) (Or.inr (Or.inr (Or.inl ⟨rfl, rfl⟩))) (oX11_starts hI) body_X11_starts
theorem cv_X11_starts {Iv : xI} {own : String} {cc : ByteArray} {fr pc idx : Nat} (hI : xm_good Iv) (hdg : decode cc pc = .ok (.invokevirtual idx, 3)) (hl : xm_ml own idx yX11_starts) (hfr : 3 < fr) : xm_CallOK Iv own cc fr pc (pc + 3) 2 0 0 (xm_this 8 S_X11_starts) := xm_callV 8 hI (ct_X11_starts hI) hdg hl q2143 qs54 q145 q2144 rfl rfl (by decide +kernel) hfr (by decide)
abbrev bX11_ends_0 : List xE := [(.aload_n 0, 1, 0, 0, 0), (.aload_n 0, 2, 0, 0, 0), (.getfield 153, 5, 8, 6, 0), (.putfield 9, 8, 8, 3, 0), (.aload_n 0, 9, 0, 0, 0), (.getfield 150, 12, 8, 5, 0), (.bipush 10, 14, 0, 0, 0), (.isub, 15, 0, 0, 0), (.ireturn, 16, 0, 0, 0)]
abbrev kX11_ends : List (Nat × List xE) := [(0, bX11_ends_0)]
abbrev lX11_ends : List (Nat × Nat × Nat × xS) := []
theorem oX11_ends_0 {Iv : xI} (hI : xm_good Iv)  : xm_okb Iv RX11 cX11_ends false 1 lX11_ends bX11_ends_0 0 := xo_0 dX11_ends_0 rfl trivial (xo_0 dX11_ends_1 rfl trivial (xo_0 dX11_ends_2 rfl (xm_fg_of (Or.inl q1961) (by decide) rfl (by decide) rfl rfl (Or.inl rfl) rfl) (xo_0 dX11_ends_5 rfl (xm_fp_of (xm_fg_of (Or.inl q1958) (by decide) rfl (by decide) rfl rfl (Or.inl rfl) rfl) (by decide) rfl (Or.inl ⟨rfl, rfl⟩) rfl) (xo_0 dX11_ends_8 rfl trivial (xo_0 dX11_ends_9 rfl (xm_fg_of (Or.inl q1960) (by decide) rfl (by decide) rfl rfl (Or.inl rfl) rfl) (xo_0 dX11_ends_12 rfl (xo_bipush (by decide +kernel)) (xo_0 dX11_ends_14 rfl trivial (xo_0 dX11_ends_15 rfl trivial (xo_n)))))))))
theorem oX11_ends {Iv : xI} (hI : xm_good Iv)  : ∀ q ∈ kX11_ends, xm_okb Iv RX11 cX11_ends false 1 lX11_ends q.2 q.1 := by
  intro q hq
  simp only [List.mem_cons, List.not_mem_nil, or_false] at hq
  subst hq
  exact oX11_ends_0 hI  
def S_X11_ends : xS := tU fun as I Q => as = [.ref 0] ∧ Q (some (.int (I 0 5 - nI 10))) (xm_u2 I 0 3 (I 0 6))
theorem body_X11_ends : xm_Body 1 0 0 0 [] lX11_ends kX11_ends S_X11_ends := by
  intro X avs w Q QX hX0 hS
  have hG := xm_go [] hX0
  have hX := xm_go [] hX0
  clear hX0
  obtain ⟨I, rfl, rfl, hQ⟩ := hS
  refine ⟨rfl, ?_⟩
  repeat' (first
    | ((with_reducible refine @And.intro (vp_in _ _) _ ?_ ?_); (· (first | with_reducible assumption | ((with_reducible refine t_vin ?_); decide) | ((with_reducible refine vp_in_nI ?_ ?_) <;> first | omega | decide) | (simp (disch := omega) only [xl_n, xl_m, nI_dec, nI_sb, nI_add, pk_mul]; (with_reducible refine vp_in_nI ?_ ?_) <;> first | omega | decide))); (conv => whnf))
    | (refine And.intro (by first | with_reducible assumption | exact (show tL _ = _ from rfl) | decide) ?_; (conv => whnf))
    | ((with_reducible refine @And.intro (_ = _) _ ?_ ?_); (· rfl); (conv => whnf))
    | ((with_reducible refine @And.intro (@LE.le Nat _ _ _) _ ?_ ?_); (· (first | exact Nat.zero_le _ | exact Nat.le_of_ble_eq_true rfl | omega)); (conv => whnf))
    | ((with_reducible refine @And.intro (@LT.lt Nat _ _ _) _ ?_ ?_); (· omega); (conv => whnf))
    | ((with_reducible refine @And.intro (∃ _, _ = _) _ ?_ ?_); (· exact ⟨_, rfl⟩); (conv => whnf))
    | ((with_reducible refine @And.intro (_ ∨ _) _ ?_ ?_); (· (first | exact Or.inl rfl | exact Or.inr rfl | exact t_b01 _ | assumption)); (conv => whnf))
    | ((with_reducible refine @And.intro (¬ (_ = _)) _ ?_ ?_); (· first | assumption | (with_reducible assumption)); (conv => whnf))
    | (refine hX _ _ _ _ _ _ ?_; (conv => whnf); fail_if_success show False)
    | (rw [t_si]; (conv => whnf))
    | (refine ⟨_, rfl, ?_⟩; (conv => whnf))
    | (refine ⟨_, _, rfl, ?_⟩; (conv => whnf))
    | (refine ⟨_, _, _, rfl, ?_⟩; (conv => whnf))
    | (refine ⟨_, _, _, _, rfl, ?_⟩; (conv => whnf))
    | (refine And.intro (fun c => ?_) (fun c => ?_) <;> (first | (exact absurd c (by decide +kernel)) | (conv => whnf)))
    | fail)
  exact hQ
theorem ct_X11_ends {Iv : xI} (hI : xm_good Iv) : xm_Ct Iv yX11_ends (ws_ yX11_ends cX11_ends 1 (some .int)) 1 0 0 S_X11_ends := xm_enter (rt := 0) (init := false) (by decide +kernel) rfl (fun h => by cases h) (Or.inl ⟨rfl, rfl⟩) (oX11_ends hI) body_X11_ends
theorem cv_X11_ends {Iv : xI} {own : String} {cc : ByteArray} {fr pc idx : Nat} (hI : xm_good Iv) (hdg : decode cc pc = .ok (.invokevirtual idx, 3)) (hl : xm_ml own idx yX11_ends) (hfr : 1 < fr) : xm_CallOK Iv own cc fr pc (pc + 3) 1 0 0 (xm_this 8 S_X11_ends) := xm_callV 8 hI (ct_X11_ends hI) hdg hl q2238 qs73 q145 q2239 rfl rfl (by decide +kernel) hfr (by decide)
/-! words -/
def p_sn (v : Int64) (d : Int32) : Int64 := if d = nI 0 then v else lN 27 * v + d.toInt64
def p_sv (a b c d e f g : Int32) : Int64 := p_sn (p_sn (p_sn (p_sn (lN 27 * (lN 27 * a.toInt64 + b.toInt64) + c.toInt64) d) e) f) g
def p_kw (a b c d e f g : Int32) : List Nat := ([a, b, c, d, e, f, g].filter fun x => !decide (x = nI 0)).map fun x => x.toNatClampNeg
/-- a good word -/
def p_kok (a b c d e f g : Int32) : Prop := p_sv a b c d e f g = lN (p_code (p_kw a b c d e f g)) ∧ (p_kw a b c d e f g).length ≤ 7 ∧ (p_kw a b c d e f g).all (fun d => Nat.ble 1 d && Nat.ble d 26) = true
abbrev bX11_seven_0 : List xE := [(.ldc2_w 175, 3, 27, 0, 0), (.ldc2_w 175, 6, 27, 0, 0), (.iload_n 0, 7, 0, 0, 0), (.i2l, 8, 0, 0, 0), (.lmul, 9, 0, 0, 0), (.iload_n 1, 10, 0, 0, 0), (.i2l, 11, 0, 0, 0), (.ladd, 12, 0, 0, 0), (.lmul, 13, 0, 0, 0), (.iload_n 2, 14, 0, 0, 0), (.i2l, 15, 0, 0, 0), (.ladd, 16, 0, 0, 0), (.lstore 7, 18, 0, 0, 0), (.iload_n 3, 19, 0, 0, 0), (.ifCond .ne 8, 22, 0, 27, 0), (.lload 7, 24, 0, 0, 0), (.goto 12, 27, 0, 36, 0)]
abbrev bX11_seven_27 : List xE := [(.ldc2_w 175, 30, 27, 0, 0), (.lload 7, 32, 0, 0, 0), (.lmul, 33, 0, 0, 0), (.iload_n 3, 34, 0, 0, 0), (.i2l, 35, 0, 0, 0), (.ladd, 36, 0, 0, 0)]
abbrev bX11_seven_36 : List xE := [(.lstore 7, 38, 0, 0, 0), (.iload 4, 40, 0, 0, 0), (.ifCond .ne 8, 43, 0, 48, 0), (.lload 7, 45, 0, 0, 0), (.goto 13, 48, 0, 58, 0)]
abbrev bX11_seven_48 : List xE := [(.ldc2_w 175, 51, 27, 0, 0), (.lload 7, 53, 0, 0, 0), (.lmul, 54, 0, 0, 0), (.iload 4, 56, 0, 0, 0), (.i2l, 57, 0, 0, 0), (.ladd, 58, 0, 0, 0)]
abbrev bX11_seven_58 : List xE := [(.lstore 7, 60, 0, 0, 0), (.iload 5, 62, 0, 0, 0), (.ifCond .ne 8, 65, 0, 70, 0), (.lload 7, 67, 0, 0, 0), (.goto 13, 70, 0, 80, 0)]
abbrev bX11_seven_70 : List xE := [(.ldc2_w 175, 73, 27, 0, 0), (.lload 7, 75, 0, 0, 0), (.lmul, 76, 0, 0, 0), (.iload 5, 78, 0, 0, 0), (.i2l, 79, 0, 0, 0), (.ladd, 80, 0, 0, 0)]
abbrev bX11_seven_80 : List xE := [(.lstore 7, 82, 0, 0, 0), (.iload 6, 84, 0, 0, 0), (.ifCond .ne 8, 87, 0, 92, 0), (.lload 7, 89, 0, 0, 0), (.goto 13, 92, 0, 102, 0)]
abbrev bX11_seven_92 : List xE := [(.ldc2_w 175, 95, 27, 0, 0), (.lload 7, 97, 0, 0, 0), (.lmul, 98, 0, 0, 0), (.iload 6, 100, 0, 0, 0), (.i2l, 101, 0, 0, 0), (.ladd, 102, 0, 0, 0)]
abbrev bX11_seven_102 : List xE := [(.lreturn, 103, 0, 0, 0)]
abbrev kX11_seven : List (Nat × List xE) := [(0, bX11_seven_0), (27, bX11_seven_27), (36, bX11_seven_36), (48, bX11_seven_48), (58, bX11_seven_58), (70, bX11_seven_70), (80, bX11_seven_80), (92, bX11_seven_92), (102, bX11_seven_102)]
abbrev lX11_seven : List (Nat × Nat × Nat × xS) := []
theorem oX11_seven_0 {Iv : xI} (hI : xm_good Iv)  : xm_okb Iv RX11 cX11_seven false 1 lX11_seven bX11_seven_0 0 := xo_0 dX11_seven_0 rfl q2172 (xo_0 dX11_seven_3 rfl q2172 (xo_0 dX11_seven_6 rfl trivial (xo_0 dX11_seven_7 rfl trivial (xo_0 dX11_seven_8 rfl trivial (xo_0 dX11_seven_9 rfl trivial (xo_0 dX11_seven_10 rfl trivial (xo_0 dX11_seven_11 rfl trivial (xo_0 dX11_seven_12 rfl trivial (xo_0 dX11_seven_13 rfl trivial (xo_0 dX11_seven_14 rfl trivial (xo_0 dX11_seven_15 rfl trivial (xo_0 dX11_seven_16 rfl trivial (xo_0 dX11_seven_18 rfl trivial (xo_0 dX11_seven_19 rfl rfl (xo_0 dX11_seven_22 rfl trivial (xo_0 dX11_seven_24 rfl rfl (xo_n)))))))))))))))))
theorem oX11_seven_27 {Iv : xI} (hI : xm_good Iv)  : xm_okb Iv RX11 cX11_seven false 1 lX11_seven bX11_seven_27 27 := xo_0 dX11_seven_27 rfl q2172 (xo_0 dX11_seven_30 rfl trivial (xo_0 dX11_seven_32 rfl trivial (xo_0 dX11_seven_33 rfl trivial (xo_0 dX11_seven_34 rfl trivial (xo_0 dX11_seven_35 rfl trivial (xo_n))))))
theorem oX11_seven_36 {Iv : xI} (hI : xm_good Iv)  : xm_okb Iv RX11 cX11_seven false 1 lX11_seven bX11_seven_36 36 := xo_0 dX11_seven_36 rfl trivial (xo_0 dX11_seven_38 rfl trivial (xo_0 dX11_seven_40 rfl rfl (xo_0 dX11_seven_43 rfl trivial (xo_0 dX11_seven_45 rfl rfl (xo_n)))))
theorem oX11_seven_48 {Iv : xI} (hI : xm_good Iv)  : xm_okb Iv RX11 cX11_seven false 1 lX11_seven bX11_seven_48 48 := xo_0 dX11_seven_48 rfl q2172 (xo_0 dX11_seven_51 rfl trivial (xo_0 dX11_seven_53 rfl trivial (xo_0 dX11_seven_54 rfl trivial (xo_0 dX11_seven_56 rfl trivial (xo_0 dX11_seven_57 rfl trivial (xo_n))))))
theorem oX11_seven_58 {Iv : xI} (hI : xm_good Iv)  : xm_okb Iv RX11 cX11_seven false 1 lX11_seven bX11_seven_58 58 := xo_0 dX11_seven_58 rfl trivial (xo_0 dX11_seven_60 rfl trivial (xo_0 dX11_seven_62 rfl rfl (xo_0 dX11_seven_65 rfl trivial (xo_0 dX11_seven_67 rfl rfl (xo_n)))))
theorem oX11_seven_70 {Iv : xI} (hI : xm_good Iv)  : xm_okb Iv RX11 cX11_seven false 1 lX11_seven bX11_seven_70 70 := xo_0 dX11_seven_70 rfl q2172 (xo_0 dX11_seven_73 rfl trivial (xo_0 dX11_seven_75 rfl trivial (xo_0 dX11_seven_76 rfl trivial (xo_0 dX11_seven_78 rfl trivial (xo_0 dX11_seven_79 rfl trivial (xo_n))))))
theorem oX11_seven_80 {Iv : xI} (hI : xm_good Iv)  : xm_okb Iv RX11 cX11_seven false 1 lX11_seven bX11_seven_80 80 := xo_0 dX11_seven_80 rfl trivial (xo_0 dX11_seven_82 rfl trivial (xo_0 dX11_seven_84 rfl rfl (xo_0 dX11_seven_87 rfl trivial (xo_0 dX11_seven_89 rfl rfl (xo_n)))))
theorem oX11_seven_92 {Iv : xI} (hI : xm_good Iv)  : xm_okb Iv RX11 cX11_seven false 1 lX11_seven bX11_seven_92 92 := xo_0 dX11_seven_92 rfl q2172 (xo_0 dX11_seven_95 rfl trivial (xo_0 dX11_seven_97 rfl trivial (xo_0 dX11_seven_98 rfl trivial (xo_0 dX11_seven_100 rfl trivial (xo_0 dX11_seven_101 rfl trivial (xo_n))))))
theorem oX11_seven_102 {Iv : xI} (hI : xm_good Iv)  : xm_okb Iv RX11 cX11_seven false 1 lX11_seven bX11_seven_102 102 := xo_0 dX11_seven_102 rfl trivial (xo_n)
theorem oX11_seven {Iv : xI} (hI : xm_good Iv)  : ∀ q ∈ kX11_seven, xm_okb Iv RX11 cX11_seven false 1 lX11_seven q.2 q.1 := by
  intro q hq
  simp only [List.mem_cons, List.not_mem_nil, or_false] at hq
  rcases hq with rfl | rfl | rfl | rfl | rfl | rfl | rfl | rfl | rfl
  · exact oX11_seven_0 hI  
  · exact oX11_seven_27 hI  
  · exact oX11_seven_36 hI  
  · exact oX11_seven_48 hI  
  · exact oX11_seven_58 hI  
  · exact oX11_seven_70 hI  
  · exact oX11_seven_80 hI  
  · exact oX11_seven_92 hI  
  · exact oX11_seven_102 hI  
def S_X11_seven : xS := fun as w Q _ => ∃ a b c d e f g, as = [.int a, .int b, .int c, .int d, .int e, .int f, .int g] ∧ Q (some (.long (p_sv a b c d e f g))) w
theorem body_X11_seven : xm_Body 9 4 0 0 [] lX11_seven kX11_seven S_X11_seven := by
  intro X avs w Q QX hX0 hS
  have hG := xm_go [] hX0
  have hX := xm_go [] hX0
  clear hX0
  obtain ⟨va, vb, vc, vd, ve, vf, vg, rfl, hQ⟩ := hS
  refine ⟨rfl, ?_⟩
  repeat' (first
    | ((with_reducible refine @And.intro (vp_in _ _) _ ?_ ?_); (· (first | with_reducible assumption | ((with_reducible refine t_vin ?_); decide) | ((with_reducible refine vp_in_nI ?_ ?_) <;> first | omega | decide) | (simp (disch := omega) only [xl_n, xl_m, nI_dec, nI_sb, nI_add, pk_mul]; (with_reducible refine vp_in_nI ?_ ?_) <;> first | omega | decide))); (conv => whnf))
    | (refine And.intro (by first | with_reducible assumption | exact (show tL _ = _ from rfl) | decide) ?_; (conv => whnf))
    | ((with_reducible refine @And.intro (_ = _) _ ?_ ?_); (· rfl); (conv => whnf))
    | ((with_reducible refine @And.intro (@LE.le Nat _ _ _) _ ?_ ?_); (· (first | exact Nat.zero_le _ | exact Nat.le_of_ble_eq_true rfl | omega)); (conv => whnf))
    | ((with_reducible refine @And.intro (@LT.lt Nat _ _ _) _ ?_ ?_); (· omega); (conv => whnf))
    | ((with_reducible refine @And.intro (∃ _, _ = _) _ ?_ ?_); (· exact ⟨_, rfl⟩); (conv => whnf))
    | ((with_reducible refine @And.intro (_ ∨ _) _ ?_ ?_); (· (first | exact Or.inl rfl | exact Or.inr rfl | exact t_b01 _ | assumption)); (conv => whnf))
    | ((with_reducible refine @And.intro (¬ (_ = _)) _ ?_ ?_); (· first | assumption | (with_reducible assumption)); (conv => whnf))
    | (refine hX _ _ _ _ _ _ ?_; (conv => whnf); fail_if_success show False)
    | (rw [t_si]; (conv => whnf))
    | (refine ⟨_, rfl, ?_⟩; (conv => whnf))
    | (refine ⟨_, _, rfl, ?_⟩; (conv => whnf))
    | (refine ⟨_, _, _, rfl, ?_⟩; (conv => whnf))
    | (refine ⟨_, _, _, _, rfl, ?_⟩; (conv => whnf))
    | (refine And.intro (fun c => ?_) (fun c => ?_) <;> (first | (exact absurd c (by decide +kernel)) | (conv => whnf)))
    | fail)
  all_goals (
    have e : ∀ {u v : Int64}, u = v → Q (some (.long v)) w → Q (some (.long u)) w := fun h q => by rw [h]; exact q
    refine e ?_ hQ
    clear hX hG hQ e
    simp only [Classical.not_not, ← nI_0] at *
    unfold p_sv p_sn
    simp only [*, if_true, if_false]
    rfl)
theorem ct_X11_seven {Iv : xI} (hI : xm_good Iv) : xm_Ct Iv yX11_seven (ws_ yX11_seven cX11_seven 9 (some .long)) 1 0 0 S_X11_seven := xm_enter (rt := 4) (init := false) (by decide +kernel) rfl (fun h => by cases h) (Or.inr (Or.inr (Or.inr (Or.inr ⟨rfl, rfl⟩)))) (oX11_seven hI) body_X11_seven
theorem cv_X11_seven {Iv : xI} {own : String} {cc : ByteArray} {fr pc idx : Nat} (hI : xm_good Iv) (hdg : decode cc pc = .ok (.invokestatic idx, 3)) (hl : xm_ml own idx yX11_seven) (hfr : 1 < fr) : xm_CallOK Iv own cc fr pc (pc + 3) 7 0 0 S_X11_seven := xm_callS hI (ct_X11_seven hI) hdg hl q2176 q145 q2177 (by decide +kernel) hfr (by decide)
