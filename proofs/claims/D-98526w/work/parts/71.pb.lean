/-! ===== the reference: what a text is read by ===== -/
set_option maxRecDepth 100000
theorem xm_u2_u2 {I : tI} {a k : Nat} {v w : Int32} : xm_u2 (xm_u2 I a k v) a k w = xm_u2 I a k w := by
  funext b j
  unfold xm_u2
  by_cases h : b = a ∧ j = k
  · rw [if_pos h, if_pos h]
  · rw [if_neg h, if_neg h, if_neg h]
theorem xm_u2_id {I : tI} {a k : Nat} {v : Int32} (h : I a k = v) : xm_u2 I a k v = I := by
  funext b j
  unfold xm_u2
  by_cases q : b = a ∧ j = k
  · rw [if_pos q, q.1, q.2, h]
  · rw [if_neg q]
/-- the text -/
def t_tx (I : tI) (f : Nat → Int32) (n : Nat) : Prop := I 0 2 = nI n ∧ n ≤ 600 ∧ ∀ k, k < n → I 9 k = f k
/-- only place and fault -/
def t_pf (I J : tI) : Prop := (∀ b, b ≠ 0 → J b = I b) ∧ ∀ k, k ≠ 4 → k ≠ 5 → k ≠ 6 → J 0 k = I 0 k
theorem t_pf.rf {I : tI} : t_pf I I := ⟨fun _ _ => rfl, fun _ _ _ _ => rfl⟩
theorem t_pf.tr {I J L : tI} (h : t_pf I J) (h2 : t_pf J L) : t_pf I L := ⟨fun b a => (h2.1 b a).trans (h.1 b a), fun k a b c => (h2.2 k a b c).trans (h.2 k a b c)⟩
theorem t_pf.u {I : tI} {k : Nat} {v : Int32} (h : k = 4 ∨ k = 5 ∨ k = 6) : t_pf I (xm_u2 I 0 k v) := ⟨fun c h1 => funext fun j => xm_u2_ne h1 j, fun j h1 h2 h3 => by rw [xm_u2_at, if_neg (by omega)]⟩
theorem t_pf.tx {I J : tI} {f : Nat → Int32} {n : Nat} (h : t_pf I J) (ht : t_tx I f n) : t_tx J f n := ⟨(h.2 2 (by decide) (by decide) (by decide)).trans ht.1, ht.2.1, fun k hk => by rw [h.1 9 (by decide)]; exact ht.2.2 k hk⟩
/-- where the reading stands -/
def t_ps (I : tI) (n : Nat) (p : pP) : Prop := match p with
  | .inl (c, q) => I 0 5 = c ∧ ¬ c = nI 0 ∧ I 0 6 = nI q ∧ ∃ k, k ≤ n ∧ I 0 4 = nI k
  | .inr k => I 0 5 = nI 0 ∧ I 0 4 = nI k ∧ k ≤ n
theorem t_ps_at {I : tI} {n : Nat} {p : pP} (h : t_ps I n p) : ∃ k, k ≤ n ∧ I 0 4 = nI k := by
  match p, h with
  | .inl (c, q), ⟨_, _, _, h⟩ => exact h
  | .inr k, ⟨_, h1, h2⟩ => exact ⟨k, h2, h1⟩
theorem t_ps_n {I : tI} {n k : Nat} (h : t_ps I n (.inr k)) : I 0 5 = nI 0 ∧ I 0 4 = nI k ∧ k ≤ n := h
abbrev bX11_byteAt_0 : List xE := [(.iload_n 1, 1, 0, 0, 0), (.aload_n 0, 2, 0, 0, 0), (.getfield 140, 5, 8, 2, 0), (.if_icmp .lt 7, 8, 0, 12, 0), (.iconst (-1), 9, 0, 0, 0), (.goto 9, 12, 0, 18, 0)]
abbrev bX11_byteAt_12 : List xE := [(.aload_n 0, 13, 0, 0, 0), (.getfield 13, 16, 8, 9, 1), (.iload_n 1, 17, 0, 0, 0), (.iaload, 18, 0, 0, 0)]
abbrev bX11_byteAt_18 : List xE := [(.ireturn, 19, 0, 0, 0)]
abbrev kX11_byteAt : List (Nat × List xE) := [(0, bX11_byteAt_0), (12, bX11_byteAt_12), (18, bX11_byteAt_18)]
abbrev lX11_byteAt : List (Nat × Nat × Nat × xS) := []
theorem oX11_byteAt_0 {Iv : xI} (hI : xm_good Iv)  : xm_okb Iv RX11 cX11_byteAt false 1 lX11_byteAt bX11_byteAt_0 0 := xo_0 dX11_byteAt_0 rfl trivial (xo_0 dX11_byteAt_1 rfl trivial (xo_0 dX11_byteAt_2 rfl (xm_fg_of (Or.inl q1957) (by decide) rfl (by decide) rfl rfl (Or.inl rfl) rfl) (xo_0 dX11_byteAt_5 rfl rfl (xo_0 dX11_byteAt_8 rfl trivial (xo_0 dX11_byteAt_9 rfl rfl (xo_n))))))
theorem oX11_byteAt_12 {Iv : xI} (hI : xm_good Iv)  : xm_okb Iv RX11 cX11_byteAt false 1 lX11_byteAt bX11_byteAt_12 12 := xo_0 dX11_byteAt_12 rfl trivial (xo_1 dX11_byteAt_13 rfl (xm_fg_of (Or.inl q1964) (by decide) rfl (by decide) rfl rfl (Or.inl rfl) rfl) (xo_0 dX11_byteAt_16 rfl trivial (xo_0 dX11_byteAt_17 rfl trivial (xo_n))))
theorem oX11_byteAt_18 {Iv : xI} (hI : xm_good Iv)  : xm_okb Iv RX11 cX11_byteAt false 1 lX11_byteAt bX11_byteAt_18 18 := xo_0 dX11_byteAt_18 rfl trivial (xo_n)
theorem oX11_byteAt {Iv : xI} (hI : xm_good Iv)  : ∀ q ∈ kX11_byteAt, xm_okb Iv RX11 cX11_byteAt false 1 lX11_byteAt q.2 q.1 := by
  intro q hq
  simp only [List.mem_cons, List.not_mem_nil, or_false] at hq
  rcases hq with rfl | rfl | rfl
  · exact oX11_byteAt_0 hI  
  · exact oX11_byteAt_12 hI  
  · exact oX11_byteAt_18 hI  
def S_X11_byteAt : xS := tU fun as I Q => ∃ k, as = [.ref 0, .int (nI k)] ∧ ∃ f n, t_tx I f n ∧ k < 2000 ∧ Q (some (.int (p_at f n k))) I
theorem body_X11_byteAt : xm_Body 2 0 0 0 [] lX11_byteAt kX11_byteAt S_X11_byteAt := by
  intro X avs w Q QX hX0 hS
  have hG := xm_go [] hX0
  have hX := xm_go [] hX0
  clear hX0
  obtain ⟨I, rfl, k, rfl, f, n, ⟨h2, hn, hf⟩, hk, hQ⟩ := hS
  refine ⟨rfl, ?_⟩
  have e : (tW I).2.1 0 2 = nI n := h2
  by_cases hc : k < n
  · have hk600 : k < 600 := by omega
    repeat' (first
      | ((with_reducible refine @And.intro (vp_in _ _) _ ?_ ?_); (· (first | with_reducible assumption | ((with_reducible refine t_vin ?_); decide) | ((with_reducible refine vp_in_nI ?_ ?_) <;> first | omega | decide) | (simp (disch := omega) only [xl_n, xl_m, nI_dec, nI_sb, nI_add, pk_mul]; (with_reducible refine vp_in_nI ?_ ?_) <;> first | omega | decide))); (conv => whnf))
      | (refine And.intro (by first | with_reducible assumption | exact (show tL _ = _ from rfl) | decide) ?_; (conv => whnf))
      | ((with_reducible refine @And.intro (_ = _) _ ?_ ?_); (· rfl); (conv => whnf))
      | ((with_reducible refine @And.intro (@LE.le Nat _ _ _) _ ?_ ?_); (· (first | exact Nat.zero_le _ | exact Nat.le_of_ble_eq_true rfl | omega)); (conv => whnf))
      | ((with_reducible refine @And.intro (@LT.lt Nat _ _ _) _ ?_ ?_); (· omega); (conv => whnf))
      | ((with_reducible refine @And.intro (∃ _, _ = _) _ ?_ ?_); (· exact ⟨_, rfl⟩); (conv => whnf))
      | ((with_reducible refine @And.intro (_ ∨ _) _ ?_ ?_); (· (first | exact Or.inl rfl | exact Or.inr rfl | exact t_b01 _ | assumption)); (conv => whnf))
      | ((with_reducible refine @And.intro (¬ (_ = _)) _ ?_ ?_); (· first | assumption | (with_reducible assumption)); (conv => whnf))
      | (refine hX _ _ _ _ _ _ ?_; (conv => whnf); fail_if_success show False)
      | (rw [t_si]; (conv => whnf))
      | (refine ⟨_, rfl, ?_⟩; (conv => whnf))
      | (refine ⟨_, _, rfl, ?_⟩; (conv => whnf))
      | (refine ⟨_, _, _, rfl, ?_⟩; (conv => whnf))
      | (refine ⟨_, _, _, _, rfl, ?_⟩; (conv => whnf))
      | (rw [e]; (conv => whnf))
      | (refine And.intro (fun c => ?_) (fun c => ?_) <;> (first | (exact absurd c (by decide +kernel)) | (conv => whnf)))
      | fail)
    · refine t_q hQ ?_
      clear hX hG hQ
      simp (disch := omega) only [xl_n, xl_m, nI_dec, nI_sb, xl_0, xl_1, tW_i, t_bn0, t_bn1, Classical.not_not, t_lt, nI_add, nI_1, pk_mul, nI_clamp, t_si, nI_eq, nI_leI, nM_ne, nM_ne] at *
      rw [p_at_t hc, hf k hc]
    · exact absurd (nI_lt hc (by omega)) (by assumption)
  · repeat' (first
      | ((with_reducible refine @And.intro (vp_in _ _) _ ?_ ?_); (· (first | with_reducible assumption | ((with_reducible refine t_vin ?_); decide) | ((with_reducible refine vp_in_nI ?_ ?_) <;> first | omega | decide) | (simp (disch := omega) only [xl_n, xl_m, nI_dec, nI_sb, nI_add, pk_mul]; (with_reducible refine vp_in_nI ?_ ?_) <;> first | omega | decide))); (conv => whnf))
      | (refine And.intro (by first | with_reducible assumption | exact (show tL _ = _ from rfl) | decide) ?_; (conv => whnf))
      | ((with_reducible refine @And.intro (_ = _) _ ?_ ?_); (· rfl); (conv => whnf))
      | ((with_reducible refine @And.intro (@LE.le Nat _ _ _) _ ?_ ?_); (· (first | exact Nat.zero_le _ | exact Nat.le_of_ble_eq_true rfl | omega)); (conv => whnf))
      | ((with_reducible refine @And.intro (@LT.lt Nat _ _ _) _ ?_ ?_); (· omega); (conv => whnf))
      | ((with_reducible refine @And.intro (∃ _, _ = _) _ ?_ ?_); (· exact ⟨_, rfl⟩); (conv => whnf))
      | ((with_reducible refine @And.intro (_ ∨ _) _ ?_ ?_); (· (first | exact Or.inl rfl | exact Or.inr rfl | exact t_b01 _ | assumption)); (conv => whnf))
      | ((with_reducible refine @And.intro (¬ (_ = _)) _ ?_ ?_); (· first | assumption | (with_reducible assumption)); (conv => whnf))
      | (refine hX _ _ _ _ _ _ ?_; (conv => whnf); fail_if_success show False)
      | (rw [t_si]; (conv => whnf))
      | (refine ⟨_, rfl, ?_⟩; (conv => whnf))
      | (refine ⟨_, _, rfl, ?_⟩; (conv => whnf))
      | (refine ⟨_, _, _, rfl, ?_⟩; (conv => whnf))
      | (refine ⟨_, _, _, _, rfl, ?_⟩; (conv => whnf))
      | (rw [e]; (conv => whnf))
      | fail)
    refine And.intro (fun c => ?_) (fun c => ?_) <;> (conv => whnf)
    · have c' : nI k < nI n := c
      rw [nI_ltI (by omega) (by omega)] at c'
      omega
    · repeat' (first
        | ((with_reducible refine @And.intro (vp_in _ _) _ ?_ ?_); (· (first | with_reducible assumption | ((with_reducible refine t_vin ?_); decide) | ((with_reducible refine vp_in_nI ?_ ?_) <;> first | omega | decide) | (simp (disch := omega) only [xl_n, xl_m, nI_dec, nI_sb, nI_add, pk_mul]; (with_reducible refine vp_in_nI ?_ ?_) <;> first | omega | decide))); (conv => whnf))
        | (refine And.intro (by first | with_reducible assumption | exact (show tL _ = _ from rfl) | decide) ?_; (conv => whnf))
        | ((with_reducible refine @And.intro (_ = _) _ ?_ ?_); (· rfl); (conv => whnf))
        | ((with_reducible refine @And.intro (@LE.le Nat _ _ _) _ ?_ ?_); (· (first | exact Nat.zero_le _ | exact Nat.le_of_ble_eq_true rfl | omega)); (conv => whnf))
        | ((with_reducible refine @And.intro (@LT.lt Nat _ _ _) _ ?_ ?_); (· omega); (conv => whnf))
        | ((with_reducible refine @And.intro (∃ _, _ = _) _ ?_ ?_); (· exact ⟨_, rfl⟩); (conv => whnf))
        | ((with_reducible refine @And.intro (_ ∨ _) _ ?_ ?_); (· (first | exact Or.inl rfl | exact Or.inr rfl | exact t_b01 _ | assumption)); (conv => whnf))
        | ((with_reducible refine @And.intro (¬ (_ = _)) _ ?_ ?_); (· first | assumption | (with_reducible assumption)); (conv => whnf))
        | (refine hX _ _ _ _ _ _ ?_; (conv => whnf); fail_if_success show False)
        | (rw [t_si]; (conv => whnf))
        | (refine ⟨_, rfl, ?_⟩; (conv => whnf))
        | (refine ⟨_, _, rfl, ?_⟩; (conv => whnf))
        | (refine ⟨_, _, _, rfl, ?_⟩; (conv => whnf))
        | (refine ⟨_, _, _, _, rfl, ?_⟩; (conv => whnf))
        | (refine And.intro (fun c => ?_) (fun c => ?_) <;> (first | (exact absurd c (by decide +kernel)) | (conv => whnf)))
        | fail)
      refine t_q hQ ?_
      rw [p_at_f hc]
      exact xl_m
theorem ct_X11_byteAt {Iv : xI} (hI : xm_good Iv) : xm_Ct Iv yX11_byteAt (ws_ yX11_byteAt cX11_byteAt 2 (some .int)) 1 0 0 S_X11_byteAt := xm_enter (rt := 0) (init := false) (by decide +kernel) rfl (fun h => by cases h) (Or.inl ⟨rfl, rfl⟩) (oX11_byteAt hI) body_X11_byteAt
theorem cv_X11_byteAt {Iv : xI} {own : String} {cc : ByteArray} {fr pc idx : Nat} (hI : xm_good Iv) (hdg : decode cc pc = .ok (.invokevirtual idx, 3)) (hl : xm_ml own idx yX11_byteAt) (hfr : 1 < fr) : xm_CallOK Iv own cc fr pc (pc + 3) 2 0 0 (xm_this 8 S_X11_byteAt) := xm_callV 8 hI (ct_X11_byteAt hI) hdg hl q2151 qs56 q145 q2152 rfl rfl (by decide +kernel) hfr (by decide)
abbrev bX11_blanks_0 : List xE := [(.aload_n 0, 1, 0, 0, 0), (.aload_n 0, 2, 0, 0, 0), (.getfield 143, 5, 8, 4, 0), (.invokevirtual 146, 8, 0, 0, 9), (.bipush 32, 10, 0, 0, 0), (.if_icmp .ne 16, 13, 0, 26, 0), (.aload_n 0, 14, 0, 0, 0), (.dup, 15, 0, 0, 0), (.getfield 143, 18, 8, 4, 0), (.iconst 1, 19, 0, 0, 0), (.iadd, 20, 0, 0, 0), (.putfield 143, 23, 8, 4, 0), (.goto (-23), 26, 0, 0, 0)]
abbrev bX11_blanks_26 : List xE := [(.return_, 27, 0, 0, 0)]
abbrev kX11_blanks : List (Nat × List xE) := [(0, bX11_blanks_0), (26, bX11_blanks_26)]
abbrev lX11_blanks : List (Nat × Nat × Nat × xS) := [(2, 0, 0, xm_this 8 S_X11_byteAt)]
theorem oX11_blanks_0 {Iv : xI} (hI : xm_good Iv)  : xm_okb Iv RX11 cX11_blanks false 2 lX11_blanks bX11_blanks_0 0 := xo_0 dX11_blanks_0 rfl trivial (xo_0 dX11_blanks_1 rfl trivial (xo_0 dX11_blanks_2 rfl (xm_fg_of (Or.inl q1959) (by decide) rfl (by decide) rfl rfl (Or.inl rfl) rfl) (xo_c rfl (cv_X11_byteAt hI dX11_blanks_5 (Or.inl q2149) (by decide)) (xo_0 dX11_blanks_8 rfl (xo_bipush (by decide +kernel)) (xo_0 dX11_blanks_10 rfl rfl (xo_0 dX11_blanks_13 rfl trivial (xo_0 dX11_blanks_14 rfl trivial (xo_0 dX11_blanks_15 rfl (xm_fg_of (Or.inl q1959) (by decide) rfl (by decide) rfl rfl (Or.inl rfl) rfl) (xo_0 dX11_blanks_18 rfl trivial (xo_0 dX11_blanks_19 rfl trivial (xo_0 dX11_blanks_20 rfl (xm_fp_of (xm_fg_of (Or.inl q1959) (by decide) rfl (by decide) rfl rfl (Or.inl rfl) rfl) (by decide) rfl (Or.inl ⟨rfl, rfl⟩) rfl) (xo_0 dX11_blanks_23 rfl rfl (xo_n)))))))))))))
theorem oX11_blanks_26 {Iv : xI} (hI : xm_good Iv)  : xm_okb Iv RX11 cX11_blanks false 2 lX11_blanks bX11_blanks_26 26 := xo_0 dX11_blanks_26 rfl trivial (xo_n)
theorem oX11_blanks {Iv : xI} (hI : xm_good Iv)  : ∀ q ∈ kX11_blanks, xm_okb Iv RX11 cX11_blanks false 2 lX11_blanks q.2 q.1 := by
  intro q hq
  simp only [List.mem_cons, List.not_mem_nil, or_false] at hq
  rcases hq with rfl | rfl
  · exact oX11_blanks_0 hI  
  · exact oX11_blanks_26 hI  
def S_X11_blanks : xS := tU fun as I Q => as = [.ref 0] ∧ ∃ f n, t_tx I f n ∧ ∃ k, I 0 4 = nI k ∧ k ≤ n ∧ Q none (xm_u2 I 0 4 (nI (p_bl f n k)))
theorem body_X11_blanks : xm_Body 1 2 0 0 [] lX11_blanks kX11_blanks S_X11_blanks := by
  intro X avs w Q QX hX0 hS
  have hG := xm_go [] hX0
  have hX := xm_go [0] hX0
  clear hX0
  obtain ⟨I, rfl, rfl, f, n, ht, k, h4, hk, hQ⟩ := hS
  have hn := ht.2.1
  have loop : ∀ j, j ≤ n → p_bl f n j = p_bl f n k → X 0 [some (.ref 0)] [] (tW (xm_u2 I 0 4 (nI j))) 0 0 := by
    refine t_for fun j h1 ih hj => ?_
    have htJ : t_tx (xm_u2 I 0 4 (nI j)) f n := (t_pf.u (Or.inl rfl)).tx ht
    have e4 : xm_fld (tW (xm_u2 I 0 4 (nI j))) 0 4 0 = .int (nI j) := rfl
    refine hG _ _ _ _ _ _ ?_
    (conv => whnf)
    repeat' (first
      | ((with_reducible refine @And.intro (vp_in _ _) _ ?_ ?_); (· (first | with_reducible assumption | ((with_reducible refine t_vin ?_); decide) | ((with_reducible refine vp_in_nI ?_ ?_) <;> first | omega | decide) | (simp (disch := omega) only [xl_n, xl_m, nI_dec, nI_sb, nI_add, pk_mul]; (with_reducible refine vp_in_nI ?_ ?_) <;> first | omega | decide))); (conv => whnf))
      | (refine And.intro (by first | with_reducible assumption | exact (show tL _ = _ from rfl) | decide) ?_; (conv => whnf))
      | ((with_reducible refine @And.intro (_ = _) _ ?_ ?_); (· rfl); (conv => whnf))
      | ((with_reducible refine @And.intro (@LE.le Nat _ _ _) _ ?_ ?_); (· (first | exact Nat.zero_le _ | exact Nat.le_of_ble_eq_true rfl | omega)); (conv => whnf))
      | ((with_reducible refine @And.intro (@LT.lt Nat _ _ _) _ ?_ ?_); (· omega); (conv => whnf))
      | ((with_reducible refine @And.intro (∃ _, _ = _) _ ?_ ?_); (· exact ⟨_, rfl⟩); (conv => whnf))
      | ((with_reducible refine @And.intro (_ ∨ _) _ ?_ ?_); (· (first | exact Or.inl rfl | exact Or.inr rfl | exact t_b01 _ | assumption)); (conv => whnf))
      | ((with_reducible refine @And.intro (¬ (_ = _)) _ ?_ ?_); (· first | assumption | (with_reducible assumption)); (conv => whnf))
      | (refine hX _ _ _ _ _ _ ?_; (conv => whnf); fail_if_success show False)
      | (rw [t_si]; (conv => whnf))
      | (refine ⟨_, rfl, ?_⟩; (conv => whnf))
      | (refine ⟨_, _, rfl, ?_⟩; (conv => whnf))
      | (refine ⟨_, _, _, rfl, ?_⟩; (conv => whnf))
      | (refine ⟨_, _, _, _, rfl, ?_⟩; (conv => whnf))
      | (rw [e4]; (conv => whnf))
      | (refine ⟨_, _, (by with_reducible assumption), ?_⟩; (conv => whnf))
      | (refine ⟨_, (by first | with_reducible assumption | exact rfl), ?_⟩; (conv => whnf))
      | fail)
    refine And.intro (fun c => ?_) (fun c => ?_) <;> (conv => whnf)
    · repeat' (first
        | ((with_reducible refine @And.intro (vp_in _ _) _ ?_ ?_); (· (first | with_reducible assumption | ((with_reducible refine t_vin ?_); decide) | ((with_reducible refine vp_in_nI ?_ ?_) <;> first | omega | decide) | (simp (disch := omega) only [xl_n, xl_m, nI_dec, nI_sb, nI_add, pk_mul]; (with_reducible refine vp_in_nI ?_ ?_) <;> first | omega | decide))); (conv => whnf))
        | (refine And.intro (by first | with_reducible assumption | exact (show tL _ = _ from rfl) | decide) ?_; (conv => whnf))
        | ((with_reducible refine @And.intro (_ = _) _ ?_ ?_); (· rfl); (conv => whnf))
        | ((with_reducible refine @And.intro (@LE.le Nat _ _ _) _ ?_ ?_); (· (first | exact Nat.zero_le _ | exact Nat.le_of_ble_eq_true rfl | omega)); (conv => whnf))
        | ((with_reducible refine @And.intro (@LT.lt Nat _ _ _) _ ?_ ?_); (· omega); (conv => whnf))
        | ((with_reducible refine @And.intro (∃ _, _ = _) _ ?_ ?_); (· exact ⟨_, rfl⟩); (conv => whnf))
        | ((with_reducible refine @And.intro (_ ∨ _) _ ?_ ?_); (· (first | exact Or.inl rfl | exact Or.inr rfl | exact t_b01 _ | assumption)); (conv => whnf))
        | ((with_reducible refine @And.intro (¬ (_ = _)) _ ?_ ?_); (· first | assumption | (with_reducible assumption)); (conv => whnf))
        | (refine hX _ _ _ _ _ _ ?_; (conv => whnf); fail_if_success show False)
        | (rw [t_si]; (conv => whnf))
        | (refine ⟨_, rfl, ?_⟩; (conv => whnf))
        | (refine ⟨_, _, rfl, ?_⟩; (conv => whnf))
        | (refine ⟨_, _, _, rfl, ?_⟩; (conv => whnf))
        | (refine ⟨_, _, _, _, rfl, ?_⟩; (conv => whnf))
        | (refine And.intro (fun c => ?_) (fun c => ?_) <;> (first | (exact absurd c (by decide +kernel)) | (conv => whnf)))
        | fail)
      have : p_bl f n k = j := by
        rw [← hj]
        refine p_sk_f fun z => ?_
        rw [p_at_t z] at c
        exact decide_eq_false c
      rw [this] at hQ
      exact hQ
    · have c' : p_at f n j = nI 32 := Classical.not_not.mp c
      have hjn : j < n := by
        rcases Nat.lt_or_ge j n with q | q
        · exact q
        · rw [p_at_f (by omega)] at c'
          exact absurd c' (by decide +kernel)
      rw [p_at_t hjn] at c'
      have := ih (j + 1) (by omega) (by omega) ((p_sk_t (q := p_isb) hjn (decide_eq_true c')).symm.trans hj)
      clear ih
      repeat' (first
        | ((with_reducible refine @And.intro (vp_in _ _) _ ?_ ?_); (· (first | with_reducible assumption | ((with_reducible refine t_vin ?_); decide) | ((with_reducible refine vp_in_nI ?_ ?_) <;> first | omega | decide) | (simp (disch := omega) only [xl_n, xl_m, nI_dec, nI_sb, nI_add, pk_mul]; (with_reducible refine vp_in_nI ?_ ?_) <;> first | omega | decide))); (conv => whnf))
        | (refine And.intro (by first | with_reducible assumption | exact (show tL _ = _ from rfl) | decide) ?_; (conv => whnf))
        | ((with_reducible refine @And.intro (_ = _) _ ?_ ?_); (· rfl); (conv => whnf))
        | ((with_reducible refine @And.intro (@LE.le Nat _ _ _) _ ?_ ?_); (· (first | exact Nat.zero_le _ | exact Nat.le_of_ble_eq_true rfl | omega)); (conv => whnf))
        | ((with_reducible refine @And.intro (@LT.lt Nat _ _ _) _ ?_ ?_); (· omega); (conv => whnf))
        | ((with_reducible refine @And.intro (∃ _, _ = _) _ ?_ ?_); (· exact ⟨_, rfl⟩); (conv => whnf))
        | ((with_reducible refine @And.intro (_ ∨ _) _ ?_ ?_); (· (first | exact Or.inl rfl | exact Or.inr rfl | exact t_b01 _ | assumption)); (conv => whnf))
        | ((with_reducible refine @And.intro (¬ (_ = _)) _ ?_ ?_); (· first | assumption | (with_reducible assumption)); (conv => whnf))
        | (refine hX _ _ _ _ _ _ ?_; (conv => whnf); fail_if_success show False)
        | (rw [t_si]; (conv => whnf))
        | (refine ⟨_, rfl, ?_⟩; (conv => whnf))
        | (refine ⟨_, _, rfl, ?_⟩; (conv => whnf))
        | (refine ⟨_, _, _, rfl, ?_⟩; (conv => whnf))
        | (refine ⟨_, _, _, _, rfl, ?_⟩; (conv => whnf))
        | (refine ⟨_, _, (by with_reducible assumption), ?_⟩; (conv => whnf))
        | (refine ⟨_, (by first | with_reducible assumption | exact rfl), ?_⟩; (conv => whnf))
        | (refine And.intro (fun c => ?_) (fun c => ?_) <;> (first | (exact absurd c (by decide +kernel)) | (conv => whnf)))
        | fail)
      clear hX hG hQ
      simp (disch := omega) only [xl_n, xl_m, nI_dec, nI_sb, xl_0, xl_1, tW_i, t_bn0, t_bn1, Classical.not_not, t_lt, nI_add, nI_1, pk_mul, nI_clamp, t_si, nI_eq, nI_leI, nM_ne, nM_ne, xm_u2_u2] at *
      have e5 : xm_u2 I 0 4 (nI j) 0 4 + nI 1 = nI (j + 1) := by rw [xm_u2_at, if_pos rfl, nI_add]
      rw [e5]
      exact this
  refine ⟨rfl, ?_⟩
  have := loop k hk rfl
  rw [xm_u2_id h4] at this
  exact this
theorem ct_X11_blanks {Iv : xI} (hI : xm_good Iv) : xm_Ct Iv yX11_blanks (ws_ yX11_blanks cX11_blanks 1 none) 2 0 0 S_X11_blanks := xm_enter (rt := 2) (init := false) (by decide +kernel) rfl (fun h => by cases h) (Or.inr (Or.inr (Or.inl ⟨rfl, rfl⟩))) (oX11_blanks hI) body_X11_blanks
theorem cv_X11_blanks {Iv : xI} {own : String} {cc : ByteArray} {fr pc idx : Nat} (hI : xm_good Iv) (hdg : decode cc pc = .ok (.invokevirtual idx, 3)) (hl : xm_ml own idx yX11_blanks) (hfr : 2 < fr) : xm_CallOK Iv own cc fr pc (pc + 3) 1 0 0 (xm_this 8 S_X11_blanks) := xm_callV 8 hI (ct_X11_blanks hI) hdg hl q2147 qs55 q145 q2148 rfl rfl (by decide +kernel) hfr (by decide)
abbrev bX11_skipWord_0 : List xE := [(.aload_n 0, 1, 0, 0, 0), (.aload_n 0, 2, 0, 0, 0), (.getfield 143, 5, 8, 4, 0), (.invokevirtual 146, 8, 0, 0, 9), (.invokestatic 172, 11, 0, 1, 9), (.ifCond .eq 16, 14, 0, 27, 0), (.aload_n 0, 15, 0, 0, 0), (.dup, 16, 0, 0, 0), (.getfield 143, 19, 8, 4, 0), (.iconst 1, 20, 0, 0, 0), (.iadd, 21, 0, 0, 0), (.putfield 143, 24, 8, 4, 0), (.goto (-24), 27, 0, 0, 0)]
abbrev bX11_skipWord_27 : List xE := [(.return_, 28, 0, 0, 0)]
abbrev kX11_skipWord : List (Nat × List xE) := [(0, bX11_skipWord_0), (27, bX11_skipWord_27)]
abbrev lX11_skipWord : List (Nat × Nat × Nat × xS) := [(2, 0, 0, xm_this 8 S_X11_byteAt), (1, 0, 0, S_X11_isSmall)]
theorem oX11_skipWord_0 {Iv : xI} (hI : xm_good Iv)  : xm_okb Iv RX11 cX11_skipWord false 2 lX11_skipWord bX11_skipWord_0 0 := xo_0 dX11_skipWord_0 rfl trivial (xo_0 dX11_skipWord_1 rfl trivial (xo_0 dX11_skipWord_2 rfl (xm_fg_of (Or.inl q1959) (by decide) rfl (by decide) rfl rfl (Or.inl rfl) rfl) (xo_c rfl (cv_X11_byteAt hI dX11_skipWord_5 (Or.inl q2149) (by decide)) (xo_c rfl (cv_X11_isSmall hI dX11_skipWord_8 (Or.inl q2169) (by decide)) (xo_0 dX11_skipWord_11 rfl rfl (xo_0 dX11_skipWord_14 rfl trivial (xo_0 dX11_skipWord_15 rfl trivial (xo_0 dX11_skipWord_16 rfl (xm_fg_of (Or.inl q1959) (by decide) rfl (by decide) rfl rfl (Or.inl rfl) rfl) (xo_0 dX11_skipWord_19 rfl trivial (xo_0 dX11_skipWord_20 rfl trivial (xo_0 dX11_skipWord_21 rfl (xm_fp_of (xm_fg_of (Or.inl q1959) (by decide) rfl (by decide) rfl rfl (Or.inl rfl) rfl) (by decide) rfl (Or.inl ⟨rfl, rfl⟩) rfl) (xo_0 dX11_skipWord_24 rfl rfl (xo_n)))))))))))))
theorem oX11_skipWord_27 {Iv : xI} (hI : xm_good Iv)  : xm_okb Iv RX11 cX11_skipWord false 2 lX11_skipWord bX11_skipWord_27 27 := xo_0 dX11_skipWord_27 rfl trivial (xo_n)
theorem oX11_skipWord {Iv : xI} (hI : xm_good Iv)  : ∀ q ∈ kX11_skipWord, xm_okb Iv RX11 cX11_skipWord false 2 lX11_skipWord q.2 q.1 := by
  intro q hq
  simp only [List.mem_cons, List.not_mem_nil, or_false] at hq
  rcases hq with rfl | rfl
  · exact oX11_skipWord_0 hI  
  · exact oX11_skipWord_27 hI  
def S_X11_skipWord : xS := tU fun as I Q => as = [.ref 0] ∧ ∃ f n, t_tx I f n ∧ ∃ k, I 0 4 = nI k ∧ k ≤ n ∧ Q none (xm_u2 I 0 4 (nI (p_le f n k)))
theorem body_X11_skipWord : xm_Body 1 2 0 0 [] lX11_skipWord kX11_skipWord S_X11_skipWord := by
  intro X avs w Q QX hX0 hS
  have hG := xm_go [] hX0
  have hX := xm_go [0] hX0
  clear hX0
  obtain ⟨I, rfl, rfl, f, n, ht, k, h4, hk, hQ⟩ := hS
  have hn := ht.2.1
  have loop : ∀ j, j ≤ n → p_le f n j = p_le f n k → X 0 [some (.ref 0)] [] (tW (xm_u2 I 0 4 (nI j))) 0 0 := by
    refine t_for fun j h1 ih hj => ?_
    have htJ : t_tx (xm_u2 I 0 4 (nI j)) f n := (t_pf.u (Or.inl rfl)).tx ht
    have e4 : xm_fld (tW (xm_u2 I 0 4 (nI j))) 0 4 0 = .int (nI j) := rfl
    cases c : t_let (p_at f n j) with
    | false =>
      have : p_le f n k = j := by
        rw [← hj]
        refine p_sk_f fun z => ?_
        rw [p_at_t z] at c
        exact c
      rw [this] at hQ
      clear ih
      refine hG _ _ _ _ _ _ ?_
      (conv => whnf)
      repeat' (first
        | ((with_reducible refine @And.intro (vp_in _ _) _ ?_ ?_); (· (first | with_reducible assumption | ((with_reducible refine t_vin ?_); decide) | ((with_reducible refine vp_in_nI ?_ ?_) <;> first | omega | decide) | (simp (disch := omega) only [xl_n, xl_m, nI_dec, nI_sb, nI_add, pk_mul]; (with_reducible refine vp_in_nI ?_ ?_) <;> first | omega | decide))); (conv => whnf))
        | (refine And.intro (by first | with_reducible assumption | exact (show tL _ = _ from rfl) | decide) ?_; (conv => whnf))
        | ((with_reducible refine @And.intro (_ = _) _ ?_ ?_); (· rfl); (conv => whnf))
        | ((with_reducible refine @And.intro (@LE.le Nat _ _ _) _ ?_ ?_); (· (first | exact Nat.zero_le _ | exact Nat.le_of_ble_eq_true rfl | omega)); (conv => whnf))
        | ((with_reducible refine @And.intro (@LT.lt Nat _ _ _) _ ?_ ?_); (· omega); (conv => whnf))
        | ((with_reducible refine @And.intro (∃ _, _ = _) _ ?_ ?_); (· exact ⟨_, rfl⟩); (conv => whnf))
        | ((with_reducible refine @And.intro (_ ∨ _) _ ?_ ?_); (· (first | exact Or.inl rfl | exact Or.inr rfl | exact t_b01 _ | assumption)); (conv => whnf))
        | ((with_reducible refine @And.intro (¬ (_ = _)) _ ?_ ?_); (· first | assumption | (with_reducible assumption)); (conv => whnf))
        | (refine hX _ _ _ _ _ _ ?_; (conv => whnf); fail_if_success show False)
        | (rw [t_si]; (conv => whnf))
        | (refine ⟨_, rfl, ?_⟩; (conv => whnf))
        | (refine ⟨_, _, rfl, ?_⟩; (conv => whnf))
        | (refine ⟨_, _, _, rfl, ?_⟩; (conv => whnf))
        | (refine ⟨_, _, _, _, rfl, ?_⟩; (conv => whnf))
        | (rw [e4]; (conv => whnf))
        | (rw [c]; (conv => whnf))
        | (refine ⟨_, _, (by with_reducible assumption), ?_⟩; (conv => whnf))
        | (refine ⟨_, (by first | with_reducible assumption | exact rfl), ?_⟩; (conv => whnf))
        | (refine And.intro (fun c => ?_) (fun c => ?_) <;> (first | (exact absurd c (by decide +kernel)) | (conv => whnf)))
        | fail)
      exact hQ
    | true =>
      have hjn : j < n := by
        rcases Nat.lt_or_ge j n with q | q
        · exact q
        · rw [p_at_f (by omega), t_let_nM] at c
          cases c
      have c2 := c
      rw [p_at_t hjn] at c2
      have := ih (j + 1) (by omega) (by omega) ((p_sk_t (q := t_let) hjn c2).symm.trans hj)
      clear ih
      refine hG _ _ _ _ _ _ ?_
      (conv => whnf)
      repeat' (first
        | ((with_reducible refine @And.intro (vp_in _ _) _ ?_ ?_); (· (first | with_reducible assumption | ((with_reducible refine t_vin ?_); decide) | ((with_reducible refine vp_in_nI ?_ ?_) <;> first | omega | decide) | (simp (disch := omega) only [xl_n, xl_m, nI_dec, nI_sb, nI_add, pk_mul]; (with_reducible refine vp_in_nI ?_ ?_) <;> first | omega | decide))); (conv => whnf))
        | (refine And.intro (by first | with_reducible assumption | exact (show tL _ = _ from rfl) | decide) ?_; (conv => whnf))
        | ((with_reducible refine @And.intro (_ = _) _ ?_ ?_); (· rfl); (conv => whnf))
        | ((with_reducible refine @And.intro (@LE.le Nat _ _ _) _ ?_ ?_); (· (first | exact Nat.zero_le _ | exact Nat.le_of_ble_eq_true rfl | omega)); (conv => whnf))
        | ((with_reducible refine @And.intro (@LT.lt Nat _ _ _) _ ?_ ?_); (· omega); (conv => whnf))
        | ((with_reducible refine @And.intro (∃ _, _ = _) _ ?_ ?_); (· exact ⟨_, rfl⟩); (conv => whnf))
        | ((with_reducible refine @And.intro (_ ∨ _) _ ?_ ?_); (· (first | exact Or.inl rfl | exact Or.inr rfl | exact t_b01 _ | assumption)); (conv => whnf))
        | ((with_reducible refine @And.intro (¬ (_ = _)) _ ?_ ?_); (· first | assumption | (with_reducible assumption)); (conv => whnf))
        | (refine hX _ _ _ _ _ _ ?_; (conv => whnf); fail_if_success show False)
        | (rw [t_si]; (conv => whnf))
        | (refine ⟨_, rfl, ?_⟩; (conv => whnf))
        | (refine ⟨_, _, rfl, ?_⟩; (conv => whnf))
        | (refine ⟨_, _, _, rfl, ?_⟩; (conv => whnf))
        | (refine ⟨_, _, _, _, rfl, ?_⟩; (conv => whnf))
        | (rw [e4]; (conv => whnf))
        | (rw [c]; (conv => whnf))
        | (refine ⟨_, _, (by with_reducible assumption), ?_⟩; (conv => whnf))
        | (refine ⟨_, (by first | with_reducible assumption | exact rfl), ?_⟩; (conv => whnf))
        | (refine And.intro (fun c => ?_) (fun c => ?_) <;> (first | (exact absurd c (by decide +kernel)) | (conv => whnf)))
        | fail)
      clear hX hG hQ
      simp (disch := omega) only [xl_n, xl_m, nI_dec, nI_sb, xl_0, xl_1, tW_i, t_bn0, t_bn1, Classical.not_not, t_lt, nI_add, nI_1, pk_mul, nI_clamp, t_si, nI_eq, nI_leI, nM_ne, nM_ne, xm_u2_u2] at *
      have e5 : xm_u2 I 0 4 (nI j) 0 4 + nI 1 = nI (j + 1) := by rw [xm_u2_at, if_pos rfl, nI_add]
      rw [e5]
      exact this
  refine ⟨rfl, ?_⟩
  have := loop k hk rfl
  rw [xm_u2_id h4] at this
  exact this
theorem ct_X11_skipWord {Iv : xI} (hI : xm_good Iv) : xm_Ct Iv yX11_skipWord (ws_ yX11_skipWord cX11_skipWord 1 none) 2 0 0 S_X11_skipWord := xm_enter (rt := 2) (init := false) (by decide +kernel) rfl (fun h => by cases h) (Or.inr (Or.inr (Or.inl ⟨rfl, rfl⟩))) (oX11_skipWord hI) body_X11_skipWord
theorem cv_X11_skipWord {Iv : xI} {own : String} {cc : ByteArray} {fr pc idx : Nat} (hI : xm_good Iv) (hdg : decode cc pc = .ok (.invokevirtual idx, 3)) (hl : xm_ml own idx yX11_skipWord) (hfr : 2 < fr) : xm_CallOK Iv own cc fr pc (pc + 3) 1 0 0 (xm_this 8 S_X11_skipWord) := xm_callV 8 hI (ct_X11_skipWord hI) hdg hl q2184 qs62 q145 q2185 rfl rfl (by decide +kernel) hfr (by decide)
abbrev bX11_wrong_0 : List xE := [(.aload_n 0, 1, 0, 0, 0), (.getfield 150, 4, 8, 5, 0), (.ifCond .ne 13, 7, 0, 17, 0), (.aload_n 0, 8, 0, 0, 0), (.iload_n 1, 9, 0, 0, 0), (.putfield 150, 12, 8, 5, 0), (.aload_n 0, 13, 0, 0, 0), (.iload_n 2, 14, 0, 0, 0), (.putfield 153, 17, 8, 6, 0)]
abbrev bX11_wrong_17 : List xE := [(.return_, 18, 0, 0, 0)]
abbrev kX11_wrong : List (Nat × List xE) := [(0, bX11_wrong_0), (17, bX11_wrong_17)]
abbrev lX11_wrong : List (Nat × Nat × Nat × xS) := []
theorem oX11_wrong_0 {Iv : xI} (hI : xm_good Iv)  : xm_okb Iv RX11 cX11_wrong false 1 lX11_wrong bX11_wrong_0 0 := xo_0 dX11_wrong_0 rfl trivial (xo_0 dX11_wrong_1 rfl (xm_fg_of (Or.inl q1960) (by decide) rfl (by decide) rfl rfl (Or.inl rfl) rfl) (xo_0 dX11_wrong_4 rfl rfl (xo_0 dX11_wrong_7 rfl trivial (xo_0 dX11_wrong_8 rfl trivial (xo_0 dX11_wrong_9 rfl (xm_fp_of (xm_fg_of (Or.inl q1960) (by decide) rfl (by decide) rfl rfl (Or.inl rfl) rfl) (by decide) rfl (Or.inl ⟨rfl, rfl⟩) rfl) (xo_0 dX11_wrong_12 rfl trivial (xo_0 dX11_wrong_13 rfl trivial (xo_0 dX11_wrong_14 rfl (xm_fp_of (xm_fg_of (Or.inl q1961) (by decide) rfl (by decide) rfl rfl (Or.inl rfl) rfl) (by decide) rfl (Or.inl ⟨rfl, rfl⟩) rfl) (xo_n)))))))))
theorem oX11_wrong_17 {Iv : xI} (hI : xm_good Iv)  : xm_okb Iv RX11 cX11_wrong false 1 lX11_wrong bX11_wrong_17 17 := xo_0 dX11_wrong_17 rfl trivial (xo_n)
theorem oX11_wrong {Iv : xI} (hI : xm_good Iv)  : ∀ q ∈ kX11_wrong, xm_okb Iv RX11 cX11_wrong false 1 lX11_wrong q.2 q.1 := by
  intro q hq
  simp only [List.mem_cons, List.not_mem_nil, or_false] at hq
  rcases hq with rfl | rfl
  · exact oX11_wrong_0 hI  
  · exact oX11_wrong_17 hI  
def S_X11_wrong : xS := tU fun as I Q => ∃ c q, as = [.ref 0, .int c, .int q] ∧ ((I 0 5 = nI 0 → Q none (xm_u2 (xm_u2 I 0 5 c) 0 6 q)) ∧ (¬ I 0 5 = nI 0 → Q none I))
theorem body_X11_wrong : xm_Body 3 2 0 0 [] lX11_wrong kX11_wrong S_X11_wrong := by
  intro X avs w Q QX hX0 hS
  have hG := xm_go [] hX0
  have hX := xm_go [] hX0
  clear hX0
  obtain ⟨I, rfl, c, q, rfl, h1, h2⟩ := hS
  refine ⟨rfl, ?_⟩
  repeat' (first
    | ((with_reducible refine @And.intro (vp_in _ _) _ ?_ ?_); (· (first | with_reducible assumption | ((with_reducible refine t_vin ?_); decide) | ((with_reducible refine vp_in_nI ?_ ?_) <;> first | omega | decide) | (simp (disch := omega) only [xl_n, xl_m, nI_dec, nI_sb, nI_add, pk_mul]; (with_reducible refine vp_in_nI ?_ ?_) <;> first | omega | decide))); (conv => whnf))
    | (refine And.intro (by first | with_reducible assumption | exact (show tL _ = _ from rfl) | decide) ?_; (conv => whnf))
    | ((with_reducible refine @And.intro (_ = _) _ ?_ ?_); (· rfl); (conv => whnf))
    | ((with_reducible refine @And.intro (@LE.le Nat _ _ _) _ ?_ ?_); (· (first | exact Nat.zero_le _ | exact Nat.le_of_ble_eq_true rfl | omega)); (conv => whnf))
    | ((with_reducible refine @And.intro (@LT.lt Nat _ _ _) _ ?_ ?_); (· omega); (conv => whnf))
    | ((with_reducible refine @And.intro (∃ _, _ = _) _ ?_ ?_); (· exact ⟨_, rfl⟩); (conv => whnf))
    | ((with_reducible refine @And.intro (_ ∨ _) _ ?_ ?_); (· (first | exact Or.inl rfl | exact Or.inr rfl | exact t_b01 _ | assumption)); (conv => whnf))
    | ((with_reducible refine @And.intro (¬ (_ = _)) _ ?_ ?_); (· first | assumption | (with_reducible assumption)); (conv => whnf))
    | (refine hX _ _ _ _ _ _ ?_; (conv => whnf); fail_if_success show False)
    | (rw [t_si]; (conv => whnf))
    | (refine ⟨_, rfl, ?_⟩; (conv => whnf))
    | (refine ⟨_, _, rfl, ?_⟩; (conv => whnf))
    | (refine ⟨_, _, _, rfl, ?_⟩; (conv => whnf))
    | (refine ⟨_, _, _, _, rfl, ?_⟩; (conv => whnf))
    | (refine And.intro (fun c => ?_) (fun c => ?_) <;> (first | (exact absurd c (by decide +kernel)) | (conv => whnf)))
    | fail)
  · exact h2 (by assumption)
  · exact h1 (Classical.not_not.mp (by assumption))
theorem ct_X11_wrong {Iv : xI} (hI : xm_good Iv) : xm_Ct Iv yX11_wrong (ws_ yX11_wrong cX11_wrong 3 none) 1 0 0 S_X11_wrong := xm_enter (rt := 2) (init := false) (by decide +kernel) rfl (fun h => by cases h) (Or.inr (Or.inr (Or.inl ⟨rfl, rfl⟩))) (oX11_wrong hI) body_X11_wrong
theorem cv_X11_wrong {Iv : xI} {own : String} {cc : ByteArray} {fr pc idx : Nat} (hI : xm_good Iv) (hdg : decode cc pc = .ok (.invokevirtual idx, 3)) (hl : xm_ml own idx yX11_wrong) (hfr : 1 < fr) : xm_CallOK Iv own cc fr pc (pc + 3) 3 0 0 (xm_this 8 S_X11_wrong) := xm_callV 8 hI (ct_X11_wrong hI) hdg hl q2180 qs61 q145 q2181 rfl rfl (by decide +kernel) hfr (by decide)
abbrev bX11_placeHere_0 : List xE := [(.aload_n 0, 1, 0, 0, 0), (.invokevirtual 156, 4, 0, 0, 9), (.aload_n 0, 5, 0, 0, 0), (.getfield 143, 8, 8, 4, 0), (.ireturn, 9, 0, 0, 0)]
abbrev kX11_placeHere : List (Nat × List xE) := [(0, bX11_placeHere_0)]
abbrev lX11_placeHere : List (Nat × Nat × Nat × xS) := [(1, 0, 0, xm_this 8 S_X11_blanks)]
theorem oX11_placeHere_0 {Iv : xI} (hI : xm_good Iv)  : xm_okb Iv RX11 cX11_placeHere false 3 lX11_placeHere bX11_placeHere_0 0 := xo_0 dX11_placeHere_0 rfl trivial (xo_c rfl (cv_X11_blanks hI dX11_placeHere_1 (Or.inl q2145) (by decide)) (xo_0 dX11_placeHere_4 rfl trivial (xo_0 dX11_placeHere_5 rfl (xm_fg_of (Or.inl q1959) (by decide) rfl (by decide) rfl rfl (Or.inl rfl) rfl) (xo_0 dX11_placeHere_8 rfl trivial (xo_n)))))
theorem oX11_placeHere {Iv : xI} (hI : xm_good Iv)  : ∀ q ∈ kX11_placeHere, xm_okb Iv RX11 cX11_placeHere false 3 lX11_placeHere q.2 q.1 := by
  intro q hq
  simp only [List.mem_cons, List.not_mem_nil, or_false] at hq
  subst hq
  exact oX11_placeHere_0 hI  
def S_X11_placeHere : xS := tU fun as I Q => as = [.ref 0] ∧ ∃ f n, t_tx I f n ∧ ∃ k, I 0 4 = nI k ∧ k ≤ n ∧ Q (some (.int (nI (p_bl f n k)))) (xm_u2 I 0 4 (nI (p_bl f n k)))
theorem body_X11_placeHere : xm_Body 1 0 0 0 [] lX11_placeHere kX11_placeHere S_X11_placeHere := by
  intro X avs w Q QX hX0 hS
  have hG := xm_go [] hX0
  have hX := xm_go [] hX0
  clear hX0
  obtain ⟨I, rfl, rfl, f, n, ht, k, h4, hk, hQ⟩ := hS
  refine ⟨rfl, ?_⟩
  repeat' (first
    | ((with_reducible refine @And.intro (vp_in _ _) _ ?_ ?_); (· (first | with_reducible assumption | ((with_reducible refine t_vin ?_); decide) | ((with_reducible refine vp_in_nI ?_ ?_) <;> first | omega | decide) | (simp (disch := omega) only [xl_n, xl_m, nI_dec, nI_sb, nI_add, pk_mul]; (with_reducible refine vp_in_nI ?_ ?_) <;> first | omega | decide))); (conv => whnf))
    | (refine And.intro (by first | with_reducible assumption | exact (show tL _ = _ from rfl) | decide) ?_; (conv => whnf))
    | ((with_reducible refine @And.intro (_ = _) _ ?_ ?_); (· rfl); (conv => whnf))
    | ((with_reducible refine @And.intro (@LE.le Nat _ _ _) _ ?_ ?_); (· (first | exact Nat.zero_le _ | exact Nat.le_of_ble_eq_true rfl | omega)); (conv => whnf))
    | ((with_reducible refine @And.intro (@LT.lt Nat _ _ _) _ ?_ ?_); (· omega); (conv => whnf))
    | ((with_reducible refine @And.intro (∃ _, _ = _) _ ?_ ?_); (· exact ⟨_, rfl⟩); (conv => whnf))
    | ((with_reducible refine @And.intro (_ ∨ _) _ ?_ ?_); (· (first | exact Or.inl rfl | exact Or.inr rfl | exact t_b01 _ | assumption)); (conv => whnf))
    | ((with_reducible refine @And.intro (¬ (_ = _)) _ ?_ ?_); (· first | assumption | (with_reducible assumption)); (conv => whnf))
    | (refine hX _ _ _ _ _ _ ?_; (conv => whnf); fail_if_success show False)
    | (rw [t_si]; (conv => whnf))
    | (refine ⟨_, rfl, ?_⟩; (conv => whnf))
    | (refine ⟨_, _, rfl, ?_⟩; (conv => whnf))
    | (refine ⟨_, _, _, rfl, ?_⟩; (conv => whnf))
    | (refine ⟨_, _, _, _, rfl, ?_⟩; (conv => whnf))
    | (refine ⟨_, _, (by with_reducible assumption), ?_⟩; (conv => whnf))
    | (refine ⟨_, (by first | with_reducible assumption | exact rfl), ?_⟩; (conv => whnf))
    | (refine And.intro (fun c => ?_) (fun c => ?_) <;> (first | (exact absurd c (by decide +kernel)) | (conv => whnf)))
    | fail)
  exact hQ
theorem ct_X11_placeHere {Iv : xI} (hI : xm_good Iv) : xm_Ct Iv yX11_placeHere (ws_ yX11_placeHere cX11_placeHere 1 (some .int)) 3 0 0 S_X11_placeHere := xm_enter (rt := 0) (init := false) (by decide +kernel) rfl (fun h => by cases h) (Or.inl ⟨rfl, rfl⟩) (oX11_placeHere hI) body_X11_placeHere
theorem cv_X11_placeHere {Iv : xI} {own : String} {cc : ByteArray} {fr pc idx : Nat} (hI : xm_good Iv) (hdg : decode cc pc = .ok (.invokevirtual idx, 3)) (hl : xm_ml own idx yX11_placeHere) (hfr : 3 < fr) : xm_CallOK Iv own cc fr pc (pc + 3) 1 0 0 (xm_this 8 S_X11_placeHere) := xm_callV 8 hI (ct_X11_placeHere hI) hdg hl q2200 qs65 q145 q2201 rfl rfl (by decide +kernel) hfr (by decide)
theorem p_dig_lt {f : Nat → Int32} {n j : Nat} (h : t_dig (p_at f n j) = true) : j < n := by
  rcases Nat.lt_or_ge j n with q | q
  · exact q
  · rw [p_at_f (by omega), t_dig_nM] at h
    cases h
theorem p_let_lt {f : Nat → Int32} {n j : Nat} (h : t_let (p_at f n j) = true) : j < n := by
  rcases Nat.lt_or_ge j n with q | q
  · exact q
  · rw [p_at_f (by omega), t_let_nM] at h
    cases h
abbrev bX11_number_0 : List xE := [(.aload_n 0, 1, 0, 0, 0), (.getfield 150, 4, 8, 5, 0), (.ifCond .eq 5, 7, 0, 9, 0), (.iconst 0, 8, 0, 0, 0), (.ireturn, 9, 0, 0, 0)]
abbrev bX11_number_9 : List xE := [(.aload_n 0, 10, 0, 0, 0), (.invokevirtual 156, 13, 0, 0, 9), (.aload_n 0, 14, 0, 0, 0), (.getfield 143, 17, 8, 4, 0), (.istore_n 3, 18, 0, 0, 0), (.iconst 0, 19, 0, 0, 0), (.istore 4, 21, 0, 0, 0), (.aload_n 0, 22, 0, 0, 0), (.aload_n 0, 23, 0, 0, 0), (.getfield 143, 26, 8, 4, 0), (.invokevirtual 146, 29, 0, 1, 9), (.invokestatic 159, 32, 0, 2, 9), (.ifCond .ne 12, 35, 0, 44, 0), (.aload_n 0, 36, 0, 0, 0), (.iconst 1, 37, 0, 0, 0), (.aload_n 0, 38, 0, 0, 0), (.getfield 143, 41, 8, 4, 0), (.invokevirtual 163, 44, 0, 3, 9)]
abbrev bX11_number_44 : List xE := [(.aload_n 0, 45, 0, 0, 0), (.aload_n 0, 46, 0, 0, 0), (.getfield 143, 49, 8, 4, 0), (.invokevirtual 146, 52, 0, 1, 9), (.invokestatic 159, 55, 0, 2, 9), (.ifCond .eq 51, 58, 0, 106, 0), (.bipush 10, 60, 0, 0, 0), (.iload 4, 62, 0, 0, 0), (.imul, 63, 0, 0, 0), (.aload_n 0, 64, 0, 0, 0), (.aload_n 0, 65, 0, 0, 0), (.getfield 143, 68, 8, 4, 0), (.invokevirtual 146, 71, 0, 1, 9), (.iadd, 72, 0, 0, 0), (.bipush 48, 74, 0, 0, 0), (.isub, 75, 0, 0, 0), (.istore 4, 77, 0, 0, 0), (.iload 4, 79, 0, 0, 0), (.ldc 167, 81, 100000, 0, 0), (.if_icmp .le 8, 84, 0, 89, 0), (.ldc 167, 86, 100000, 0, 0), (.goto 5, 89, 0, 91, 0)]
abbrev bX11_number_89 : List xE := [(.iload 4, 91, 0, 0, 0)]
abbrev bX11_number_91 : List xE := [(.istore 4, 93, 0, 0, 0), (.aload_n 0, 94, 0, 0, 0), (.dup, 95, 0, 0, 0), (.getfield 143, 98, 8, 4, 0), (.iconst 1, 99, 0, 0, 0), (.iadd, 100, 0, 0, 0), (.putfield 143, 103, 8, 4, 0), (.goto (-59), 106, 0, 44, 0)]
abbrev bX11_number_106 : List xE := [(.iload 4, 108, 0, 0, 0), (.iload_n 1, 109, 0, 0, 0), (.iload_n 2, 110, 0, 0, 0), (.invokestatic 168, 113, 0, 4, 9), (.ifCond .ne 9, 116, 0, 122, 0), (.aload_n 0, 117, 0, 0, 0), (.iconst 2, 118, 0, 0, 0), (.iload_n 3, 119, 0, 0, 0), (.invokevirtual 163, 122, 0, 3, 9)]
abbrev bX11_number_122 : List xE := [(.aload_n 0, 123, 0, 0, 0), (.getfield 150, 126, 8, 5, 0), (.ifCond .ne 8, 129, 0, 134, 0), (.iload 4, 131, 0, 0, 0), (.goto 4, 134, 0, 135, 0)]
abbrev bX11_number_134 : List xE := [(.iconst 0, 135, 0, 0, 0)]
abbrev bX11_number_135 : List xE := [(.ireturn, 136, 0, 0, 0)]
abbrev kX11_number : List (Nat × List xE) := [(0, bX11_number_0), (9, bX11_number_9), (44, bX11_number_44), (89, bX11_number_89), (91, bX11_number_91), (106, bX11_number_106), (122, bX11_number_122), (134, bX11_number_134), (135, bX11_number_135)]
abbrev lX11_number : List (Nat × Nat × Nat × xS) := [(1, 0, 0, xm_this 8 S_X11_blanks), (2, 0, 0, xm_this 8 S_X11_byteAt), (1, 0, 0, S_X11_isDigit), (3, 0, 0, xm_this 8 S_X11_wrong), (3, 0, 0, S_X11_in)]
theorem oX11_number_0 {Iv : xI} (hI : xm_good Iv)  : xm_okb Iv RX11 cX11_number false 3 lX11_number bX11_number_0 0 := xo_0 dX11_number_0 rfl trivial (xo_0 dX11_number_1 rfl (xm_fg_of (Or.inl q1960) (by decide) rfl (by decide) rfl rfl (Or.inl rfl) rfl) (xo_0 dX11_number_4 rfl rfl (xo_0 dX11_number_7 rfl trivial (xo_0 dX11_number_8 rfl trivial (xo_n)))))
theorem oX11_number_9 {Iv : xI} (hI : xm_good Iv)  : xm_okb Iv RX11 cX11_number false 3 lX11_number bX11_number_9 9 := xo_0 dX11_number_9 rfl trivial (xo_c rfl (cv_X11_blanks hI dX11_number_10 (Or.inl q2145) (by decide)) (xo_0 dX11_number_13 rfl trivial (xo_0 dX11_number_14 rfl (xm_fg_of (Or.inl q1959) (by decide) rfl (by decide) rfl rfl (Or.inl rfl) rfl) (xo_0 dX11_number_17 rfl trivial (xo_0 dX11_number_18 rfl trivial (xo_0 dX11_number_19 rfl trivial (xo_0 dX11_number_21 rfl trivial (xo_0 dX11_number_22 rfl trivial (xo_0 dX11_number_23 rfl (xm_fg_of (Or.inl q1959) (by decide) rfl (by decide) rfl rfl (Or.inl rfl) rfl) (xo_c rfl (cv_X11_byteAt hI dX11_number_26 (Or.inl q2149) (by decide)) (xo_c rfl (cv_X11_isDigit hI dX11_number_29 (Or.inl q2194) (by decide)) (xo_0 dX11_number_32 rfl rfl (xo_0 dX11_number_35 rfl trivial (xo_0 dX11_number_36 rfl trivial (xo_0 dX11_number_37 rfl trivial (xo_0 dX11_number_38 rfl (xm_fg_of (Or.inl q1959) (by decide) rfl (by decide) rfl rfl (Or.inl rfl) rfl) (xo_c rfl (cv_X11_wrong hI dX11_number_41 (Or.inl q2178) (by decide)) (xo_n))))))))))))))))))
theorem oX11_number_44 {Iv : xI} (hI : xm_good Iv)  : xm_okb Iv RX11 cX11_number false 3 lX11_number bX11_number_44 44 := xo_0 dX11_number_44 rfl trivial (xo_0 dX11_number_45 rfl trivial (xo_0 dX11_number_46 rfl (xm_fg_of (Or.inl q1959) (by decide) rfl (by decide) rfl rfl (Or.inl rfl) rfl) (xo_c rfl (cv_X11_byteAt hI dX11_number_49 (Or.inl q2149) (by decide)) (xo_c rfl (cv_X11_isDigit hI dX11_number_52 (Or.inl q2194) (by decide)) (xo_0 dX11_number_55 rfl rfl (xo_0 dX11_number_58 rfl (xo_bipush (by decide +kernel)) (xo_0 dX11_number_60 rfl trivial (xo_0 dX11_number_62 rfl trivial (xo_0 dX11_number_63 rfl trivial (xo_0 dX11_number_64 rfl trivial (xo_0 dX11_number_65 rfl (xm_fg_of (Or.inl q1959) (by decide) rfl (by decide) rfl rfl (Or.inl rfl) rfl) (xo_c rfl (cv_X11_byteAt hI dX11_number_68 (Or.inl q2149) (by decide)) (xo_0 dX11_number_71 rfl trivial (xo_0 dX11_number_72 rfl (xo_bipush (by decide +kernel)) (xo_0 dX11_number_74 rfl trivial (xo_0 dX11_number_75 rfl trivial (xo_0 dX11_number_77 rfl trivial (xo_0 dX11_number_79 rfl q2197 (xo_0 dX11_number_81 rfl rfl (xo_0 dX11_number_84 rfl q2197 (xo_0 dX11_number_86 rfl rfl (xo_n))))))))))))))))))))))
theorem oX11_number_89 {Iv : xI} (hI : xm_good Iv)  : xm_okb Iv RX11 cX11_number false 3 lX11_number bX11_number_89 89 := xo_0 dX11_number_89 rfl trivial (xo_n)
theorem oX11_number_91 {Iv : xI} (hI : xm_good Iv)  : xm_okb Iv RX11 cX11_number false 3 lX11_number bX11_number_91 91 := xo_0 dX11_number_91 rfl trivial (xo_0 dX11_number_93 rfl trivial (xo_0 dX11_number_94 rfl trivial (xo_0 dX11_number_95 rfl (xm_fg_of (Or.inl q1959) (by decide) rfl (by decide) rfl rfl (Or.inl rfl) rfl) (xo_0 dX11_number_98 rfl trivial (xo_0 dX11_number_99 rfl trivial (xo_0 dX11_number_100 rfl (xm_fp_of (xm_fg_of (Or.inl q1959) (by decide) rfl (by decide) rfl rfl (Or.inl rfl) rfl) (by decide) rfl (Or.inl ⟨rfl, rfl⟩) rfl) (xo_0 dX11_number_103 rfl rfl (xo_n))))))))
theorem oX11_number_106 {Iv : xI} (hI : xm_good Iv)  : xm_okb Iv RX11 cX11_number false 3 lX11_number bX11_number_106 106 := xo_0 dX11_number_106 rfl trivial (xo_0 dX11_number_108 rfl trivial (xo_0 dX11_number_109 rfl trivial (xo_c rfl (cv_X11_in hI dX11_number_110 (Or.inl q1942) (by decide)) (xo_0 dX11_number_113 rfl rfl (xo_0 dX11_number_116 rfl trivial (xo_0 dX11_number_117 rfl trivial (xo_0 dX11_number_118 rfl trivial (xo_c rfl (cv_X11_wrong hI dX11_number_119 (Or.inl q2178) (by decide)) (xo_n)))))))))
theorem oX11_number_122 {Iv : xI} (hI : xm_good Iv)  : xm_okb Iv RX11 cX11_number false 3 lX11_number bX11_number_122 122 := xo_0 dX11_number_122 rfl trivial (xo_0 dX11_number_123 rfl (xm_fg_of (Or.inl q1960) (by decide) rfl (by decide) rfl rfl (Or.inl rfl) rfl) (xo_0 dX11_number_126 rfl rfl (xo_0 dX11_number_129 rfl trivial (xo_0 dX11_number_131 rfl rfl (xo_n)))))
theorem oX11_number_134 {Iv : xI} (hI : xm_good Iv)  : xm_okb Iv RX11 cX11_number false 3 lX11_number bX11_number_134 134 := xo_0 dX11_number_134 rfl trivial (xo_n)
theorem oX11_number_135 {Iv : xI} (hI : xm_good Iv)  : xm_okb Iv RX11 cX11_number false 3 lX11_number bX11_number_135 135 := xo_0 dX11_number_135 rfl trivial (xo_n)
theorem oX11_number {Iv : xI} (hI : xm_good Iv)  : ∀ q ∈ kX11_number, xm_okb Iv RX11 cX11_number false 3 lX11_number q.2 q.1 := by
  intro q hq
  simp only [List.mem_cons, List.not_mem_nil, or_false] at hq
  rcases hq with rfl | rfl | rfl | rfl | rfl | rfl | rfl | rfl | rfl
  · exact oX11_number_0 hI  
  · exact oX11_number_9 hI  
  · exact oX11_number_44 hI  
  · exact oX11_number_89 hI  
  · exact oX11_number_91 hI  
  · exact oX11_number_106 hI  
  · exact oX11_number_122 hI  
  · exact oX11_number_134 hI  
  · exact oX11_number_135 hI  
def S_X11_number : xS := tU fun as I Q => ∃ lo hi, as = [.ref 0, .int lo, .int hi] ∧ ∃ f n, t_tx I f n ∧ ∃ p, t_ps I n p ∧ ∀ J, t_pf I J → t_ps J n (p_st (p_go p (p_number f n lo hi))) → Q (some (.int (p_v (p_go p (p_number f n lo hi))))) J
theorem body_X11_number : xm_Body 5 0 0 0 [] lX11_number kX11_number S_X11_number := by
  intro X avs w Q QX hX0 hS
  have hG := xm_go [] hX0
  have hX := xm_go [44] hX0
  clear hX0
  obtain ⟨I, rfl, lo, hi, rfl, f, n, ht, p, hp, hQ⟩ := hS
  have hn := ht.2.1
  match p, hp with
  | .inl (c, q), hp =>
    have h5 : ¬ I 0 5 = 0 := by rw [hp.1, ← nI_0]; exact hp.2.1
    refine ⟨rfl, ?_⟩
    repeat' (first
      | ((with_reducible refine @And.intro (vp_in _ _) _ ?_ ?_); (· (first | with_reducible assumption | ((with_reducible refine t_vin ?_); decide) | ((with_reducible refine vp_in_nI ?_ ?_) <;> first | omega | decide) | (simp (disch := omega) only [xl_n, xl_m, nI_dec, nI_sb, nI_add, pk_mul]; (with_reducible refine vp_in_nI ?_ ?_) <;> first | omega | decide))); (conv => whnf))
      | (refine And.intro (by first | with_reducible assumption | exact (show tL _ = _ from rfl) | decide) ?_; (conv => whnf))
      | ((with_reducible refine @And.intro (_ = _) _ ?_ ?_); (· rfl); (conv => whnf))
      | ((with_reducible refine @And.intro (@LE.le Nat _ _ _) _ ?_ ?_); (· (first | exact Nat.zero_le _ | exact Nat.le_of_ble_eq_true rfl | omega)); (conv => whnf))
      | ((with_reducible refine @And.intro (@LT.lt Nat _ _ _) _ ?_ ?_); (· omega); (conv => whnf))
      | ((with_reducible refine @And.intro (∃ _, _ = _) _ ?_ ?_); (· exact ⟨_, rfl⟩); (conv => whnf))
      | ((with_reducible refine @And.intro (_ ∨ _) _ ?_ ?_); (· (first | exact Or.inl rfl | exact Or.inr rfl | exact t_b01 _ | assumption)); (conv => whnf))
      | ((with_reducible refine @And.intro (¬ (_ = _)) _ ?_ ?_); (· first | assumption | (with_reducible assumption)); (conv => whnf))
      | (refine hX _ _ _ _ _ _ ?_; (conv => whnf); fail_if_success show False)
      | (rw [t_si]; (conv => whnf))
      | (refine ⟨_, rfl, ?_⟩; (conv => whnf))
      | (refine ⟨_, _, rfl, ?_⟩; (conv => whnf))
      | (refine ⟨_, _, _, rfl, ?_⟩; (conv => whnf))
      | (refine ⟨_, _, _, _, rfl, ?_⟩; (conv => whnf))
      | (refine ⟨_, _, (by with_reducible assumption), ?_⟩; (conv => whnf))
      | (refine ⟨_, (by first | with_reducible assumption | exact rfl), ?_⟩; (conv => whnf))
      | (refine And.intro (fun c => ?_) (fun c => ?_) <;> (first | (exact absurd c (by decide +kernel)) | (conv => whnf)))
      | fail)
    · exact absurd (by assumption) h5
    · exact t_q (hQ I t_pf.rf hp) xl_n.1
  | .inr k, hp =>
    obtain ⟨h5, h4, hk⟩ := hp
    obtain ⟨hb1, hb2⟩ := p_bl_in (f := f) hk
    have hQ : ∀ J, t_pf I J → t_ps J n (p_st (p_number f n lo hi k)) → Q (some (.int (p_v (p_number f n lo hi k)))) (tW J) := hQ
    have htx : ∀ j, t_tx (xm_u2 I 0 4 (nI j)) f n := fun j => (t_pf.u (Or.inl rfl)).tx ht
    have f5 : ∀ j, xm_u2 I 0 4 (nI j) 0 5 = nI 0 := fun j => by rw [xm_u2_at, if_neg (by decide)]; exact h5
    have f4 : ∀ j, xm_u2 I 0 4 (nI j) 0 4 = nI j := fun j => by rw [xm_u2_at, if_pos rfl]
    generalize hb : p_bl f n k = b at hb1 hb2
    have loop : t_dig (p_at f n b) = true → ∀ j, j ≤ n → ∀ v, p_nm f n j v = p_nm f n b (nI 0) → X 44 [some (.ref 0), some (.int lo), some (.int hi), some (.int (nI b)), some (.int v)] [] (tW (xm_u2 I 0 4 (nI j))) 0 0 := by
      intro hdb
      have hnum : p_number f n lo hi k = if t_in (p_nm f n b (nI 0)).1 lo hi = true then .inr (p_nm f n b (nI 0)) else .inl (nI 2, b) := by
        unfold p_number
        rw [hb, if_pos hdb]
      refine t_for fun j h1 ih v hv => ?_
      have e4 : xm_fld (tW (xm_u2 I 0 4 (nI j))) 0 4 0 = .int (nI j) := rfl
      have htj := htx j
      have hj2 : j < 2000 := by omega
      cases hd : t_dig (p_at f n j) with
      | false =>
        have ev : p_nm f n j v = (v, j) := p_nm_f fun z => by rw [p_at_t z] at hd; exact hd
        rw [← hv, ev] at hnum
        clear ih
        cases hi2 : t_in v lo hi with
        | true =>
          have hnum : p_number f n lo hi k = .inr (v, j) := by rw [hnum]; exact if_pos hi2
          rw [hnum] at hQ
          have hQ := hQ (xm_u2 I 0 4 (nI j)) (t_pf.u (Or.inl rfl)) ⟨f5 j, f4 j, h1⟩
          refine hG _ _ _ _ _ _ ?_
          (conv => whnf)
          repeat' (first
            | ((with_reducible refine @And.intro (vp_in _ _) _ ?_ ?_); (· (first | with_reducible assumption | ((with_reducible refine t_vin ?_); decide) | ((with_reducible refine vp_in_nI ?_ ?_) <;> first | omega | decide) | (simp (disch := omega) only [xl_n, xl_m, nI_dec, nI_sb, nI_add, pk_mul]; (with_reducible refine vp_in_nI ?_ ?_) <;> first | omega | decide))); (conv => whnf))
            | (refine And.intro (by first | with_reducible assumption | exact (show tL _ = _ from rfl) | decide) ?_; (conv => whnf))
            | ((with_reducible refine @And.intro (_ = _) _ ?_ ?_); (· rfl); (conv => whnf))
            | ((with_reducible refine @And.intro (@LE.le Nat _ _ _) _ ?_ ?_); (· (first | exact Nat.zero_le _ | exact Nat.le_of_ble_eq_true rfl | omega)); (conv => whnf))
            | ((with_reducible refine @And.intro (@LT.lt Nat _ _ _) _ ?_ ?_); (· omega); (conv => whnf))
            | ((with_reducible refine @And.intro (∃ _, _ = _) _ ?_ ?_); (· exact ⟨_, rfl⟩); (conv => whnf))
            | ((with_reducible refine @And.intro (_ ∨ _) _ ?_ ?_); (· (first | exact Or.inl rfl | exact Or.inr rfl | exact t_b01 _ | assumption)); (conv => whnf))
            | ((with_reducible refine @And.intro (¬ (_ = _)) _ ?_ ?_); (· first | assumption | (with_reducible assumption)); (conv => whnf))
            | (refine hX _ _ _ _ _ _ ?_; (conv => whnf); fail_if_success show False)
            | (rw [t_si]; (conv => whnf))
            | (refine ⟨_, rfl, ?_⟩; (conv => whnf))
            | (refine ⟨_, _, rfl, ?_⟩; (conv => whnf))
            | (refine ⟨_, _, _, rfl, ?_⟩; (conv => whnf))
            | (refine ⟨_, _, _, _, rfl, ?_⟩; (conv => whnf))
            | (rw [e4]; (conv => whnf))
            | (rw [hd]; (conv => whnf))
            | (rw [hi2]; (conv => whnf))
            | (refine ⟨_, _, (by with_reducible assumption), ?_⟩; (conv => whnf))
            | (refine ⟨_, (by first | with_reducible assumption | exact rfl), ?_⟩; (conv => whnf))
            | (refine And.intro (fun c => ?_) (fun c => ?_) <;> (first | (exact absurd c (by decide +kernel)) | (conv => whnf)))
            | fail)
          · exact absurd ((f5 j).trans nI_0) (by assumption)
          · exact hQ
        | false =>
          have hnum : p_number f n lo hi k = .inl (nI 2, b) := by rw [hnum]; exact if_neg (by rw [hi2]; decide)
          rw [hnum] at hQ
          have hQ := hQ (xm_u2 (xm_u2 (xm_u2 I 0 4 (nI j)) 0 5 (nI 2)) 0 6 (nI b)) ((t_pf.u (Or.inl rfl)).tr ((t_pf.u (Or.inr (Or.inl rfl))).tr (t_pf.u (Or.inr (Or.inr rfl))))) ⟨rfl, by decide +kernel, rfl, j, h1, rfl⟩
          refine hG _ _ _ _ _ _ ?_
          (conv => whnf)
          repeat' (first
            | ((with_reducible refine @And.intro (vp_in _ _) _ ?_ ?_); (· (first | with_reducible assumption | ((with_reducible refine t_vin ?_); decide) | ((with_reducible refine vp_in_nI ?_ ?_) <;> first | omega | decide) | (simp (disch := omega) only [xl_n, xl_m, nI_dec, nI_sb, nI_add, pk_mul]; (with_reducible refine vp_in_nI ?_ ?_) <;> first | omega | decide))); (conv => whnf))
            | (refine And.intro (by first | with_reducible assumption | exact (show tL _ = _ from rfl) | decide) ?_; (conv => whnf))
            | ((with_reducible refine @And.intro (_ = _) _ ?_ ?_); (· rfl); (conv => whnf))
            | ((with_reducible refine @And.intro (@LE.le Nat _ _ _) _ ?_ ?_); (· (first | exact Nat.zero_le _ | exact Nat.le_of_ble_eq_true rfl | omega)); (conv => whnf))
            | ((with_reducible refine @And.intro (@LT.lt Nat _ _ _) _ ?_ ?_); (· omega); (conv => whnf))
            | ((with_reducible refine @And.intro (∃ _, _ = _) _ ?_ ?_); (· exact ⟨_, rfl⟩); (conv => whnf))
            | ((with_reducible refine @And.intro (_ ∨ _) _ ?_ ?_); (· (first | exact Or.inl rfl | exact Or.inr rfl | exact t_b01 _ | assumption)); (conv => whnf))
            | ((with_reducible refine @And.intro (¬ (_ = _)) _ ?_ ?_); (· first | assumption | (with_reducible assumption)); (conv => whnf))
            | (refine hX _ _ _ _ _ _ ?_; (conv => whnf); fail_if_success show False)
            | (rw [t_si]; (conv => whnf))
            | (refine ⟨_, rfl, ?_⟩; (conv => whnf))
            | (refine ⟨_, _, rfl, ?_⟩; (conv => whnf))
            | (refine ⟨_, _, _, rfl, ?_⟩; (conv => whnf))
            | (refine ⟨_, _, _, _, rfl, ?_⟩; (conv => whnf))
            | (rw [e4]; (conv => whnf))
            | (rw [hd]; (conv => whnf))
            | (rw [hi2]; (conv => whnf))
            | (refine ⟨_, _, (by with_reducible assumption), ?_⟩; (conv => whnf))
            | (refine ⟨_, (by first | with_reducible assumption | exact rfl), ?_⟩; (conv => whnf))
            | (refine And.intro (fun c => ?_) (fun c => ?_) <;> (first | (exact absurd c (by decide +kernel)) | (conv => whnf)))
            | fail)
          · exact hQ
          · exact absurd (show Int32.ofInt 2 = 0 from Classical.not_not.mp (by assumption)) (by decide +kernel)
          · exact absurd (f5 j) (by assumption)
          · exact absurd (f5 j) (by assumption)
      | true =>
        have hjn := p_dig_lt hd
        have hd2 := hd
        rw [p_at_t hjn] at hd2
        have ev : p_at f n j = f j := p_at_t hjn
        have := ih (j + 1) (by omega) (by omega) (p_dv v (f j)) ((p_nm_t hjn hd2).symm.trans hv)
        clear ih
        refine hG _ _ _ _ _ _ ?_
        (conv => whnf)
        have e5 : xm_u2 I 0 4 (nI j) 0 4 + nI 1 = nI (j + 1) := by rw [xm_u2_at, if_pos rfl, nI_add]
        repeat' (first
          | ((with_reducible refine @And.intro (vp_in _ _) _ ?_ ?_); (· (first | with_reducible assumption | ((with_reducible refine t_vin ?_); decide) | ((with_reducible refine vp_in_nI ?_ ?_) <;> first | omega | decide) | (simp (disch := omega) only [xl_n, xl_m, nI_dec, nI_sb, nI_add, pk_mul]; (with_reducible refine vp_in_nI ?_ ?_) <;> first | omega | decide))); (conv => whnf))
          | (refine And.intro (by first | with_reducible assumption | exact (show tL _ = _ from rfl) | decide) ?_; (conv => whnf))
          | ((with_reducible refine @And.intro (_ = _) _ ?_ ?_); (· rfl); (conv => whnf))
          | ((with_reducible refine @And.intro (@LE.le Nat _ _ _) _ ?_ ?_); (· (first | exact Nat.zero_le _ | exact Nat.le_of_ble_eq_true rfl | omega)); (conv => whnf))
          | ((with_reducible refine @And.intro (@LT.lt Nat _ _ _) _ ?_ ?_); (· omega); (conv => whnf))
          | ((with_reducible refine @And.intro (∃ _, _ = _) _ ?_ ?_); (· exact ⟨_, rfl⟩); (conv => whnf))
          | ((with_reducible refine @And.intro (_ ∨ _) _ ?_ ?_); (· (first | exact Or.inl rfl | exact Or.inr rfl | exact t_b01 _ | assumption)); (conv => whnf))
          | ((with_reducible refine @And.intro (¬ (_ = _)) _ ?_ ?_); (· first | assumption | (with_reducible assumption)); (conv => whnf))
          | (refine hX _ _ _ _ _ _ ?_; (conv => whnf); fail_if_success show False)
          | (rw [t_si]; (conv => whnf))
          | (refine ⟨_, rfl, ?_⟩; (conv => whnf))
          | (refine ⟨_, _, rfl, ?_⟩; (conv => whnf))
          | (refine ⟨_, _, _, rfl, ?_⟩; (conv => whnf))
          | (refine ⟨_, _, _, _, rfl, ?_⟩; (conv => whnf))
          | (rw [e4]; (conv => whnf))
          | (rw [hd]; (conv => whnf))
          | (refine ⟨_, _, (by with_reducible assumption), ?_⟩; (conv => whnf))
          | (refine ⟨_, (by first | with_reducible assumption | exact rfl), ?_⟩; (conv => whnf))
          | (refine And.intro (fun c => ?_) (fun c => ?_) <;> (first | (exact absurd c (by decide +kernel)) | (conv => whnf)))
          | fail)
        · have c' : nI 10 * v + f j - nI 48 ≤ Int32.ofNat 100000 := by
            rw [← ev]
            assumption
          rw [show p_dv v (f j) = nI 10 * v + f j - nI 48 from if_pos c'] at this
          clear hX hG hQ
          simp (disch := omega) only [xl_n, xl_m, nI_dec, nI_sb, xl_0, xl_1, tW_i, t_bn0, t_bn1, Classical.not_not, t_lt, nI_add, nI_1, pk_mul, nI_clamp, t_si, nI_eq, nI_leI, nM_ne, nM_ne, xm_set, xm_lv0, xm_psh, ev, xm_u2_u2] at *
          rw [e5]
          exact this
        · have c' : ¬ nI 10 * v + f j - nI 48 ≤ Int32.ofNat 100000 := by
            rw [← ev]
            assumption
          rw [show p_dv v (f j) = Int32.ofNat 100000 from if_neg c'] at this
          clear hX hG hQ
          simp (disch := omega) only [xl_n, xl_m, nI_dec, nI_sb, xl_0, xl_1, tW_i, t_bn0, t_bn1, Classical.not_not, t_lt, nI_add, nI_1, pk_mul, nI_clamp, t_si, nI_eq, nI_leI, nM_ne, nM_ne, xm_set, xm_lv0, xm_psh, ev, xm_u2_u2] at *
          rw [e5]
          exact this
    have e4 : xm_fld (tW (xm_u2 I 0 4 (nI b))) 0 4 0 = .int (nI b) := rfl
    have htb := htx b
    have hb3 : b < 2000 := by omega
    refine ⟨rfl, ?_⟩
    cases hd : t_dig (p_at f n b) with
    | true =>
      have := loop hd b hb2 (nI 0) rfl
      clear loop
      repeat' (first
        | ((with_reducible refine @And.intro (vp_in _ _) _ ?_ ?_); (· (first | with_reducible assumption | ((with_reducible refine t_vin ?_); decide) | ((with_reducible refine vp_in_nI ?_ ?_) <;> first | omega | decide) | (simp (disch := omega) only [xl_n, xl_m, nI_dec, nI_sb, nI_add, pk_mul]; (with_reducible refine vp_in_nI ?_ ?_) <;> first | omega | decide))); (conv => whnf))
        | (refine And.intro (by first | with_reducible assumption | exact (show tL _ = _ from rfl) | decide) ?_; (conv => whnf))
        | ((with_reducible refine @And.intro (_ = _) _ ?_ ?_); (· rfl); (conv => whnf))
        | ((with_reducible refine @And.intro (@LE.le Nat _ _ _) _ ?_ ?_); (· (first | exact Nat.zero_le _ | exact Nat.le_of_ble_eq_true rfl | omega)); (conv => whnf))
        | ((with_reducible refine @And.intro (@LT.lt Nat _ _ _) _ ?_ ?_); (· omega); (conv => whnf))
        | ((with_reducible refine @And.intro (∃ _, _ = _) _ ?_ ?_); (· exact ⟨_, rfl⟩); (conv => whnf))
        | ((with_reducible refine @And.intro (_ ∨ _) _ ?_ ?_); (· (first | exact Or.inl rfl | exact Or.inr rfl | exact t_b01 _ | assumption)); (conv => whnf))
        | ((with_reducible refine @And.intro (¬ (_ = _)) _ ?_ ?_); (· first | assumption | (with_reducible assumption)); (conv => whnf))
        | (refine hX _ _ _ _ _ _ ?_; (conv => whnf); fail_if_success show False)
        | (rw [t_si]; (conv => whnf))
        | (refine ⟨_, rfl, ?_⟩; (conv => whnf))
        | (refine ⟨_, _, rfl, ?_⟩; (conv => whnf))
        | (refine ⟨_, _, _, rfl, ?_⟩; (conv => whnf))
        | (refine ⟨_, _, _, _, rfl, ?_⟩; (conv => whnf))
        | (rw [hb]; (conv => whnf))
        | (rw [e4]; (conv => whnf))
        | (rw [hd]; (conv => whnf))
        | (refine ⟨_, _, (by with_reducible assumption), ?_⟩; (conv => whnf))
        | (refine ⟨_, (by first | with_reducible assumption | exact rfl), ?_⟩; (conv => whnf))
        | (refine And.intro (fun c => ?_) (fun c => ?_) <;> (first | (exact absurd c (by decide +kernel)) | (conv => whnf)))
        | fail)
      · exact this
      · exact absurd (h5.trans nI_0) (by assumption)
    | false =>
      have hnum : p_number f n lo hi k = .inl (nI 1, b) := by
        unfold p_number
        rw [hb, if_neg (by rw [hd]; decide)]
      rw [hnum] at hQ
      have hW : t_pf I (xm_u2 (xm_u2 (xm_u2 I 0 4 (nI b)) 0 5 (nI 1)) 0 6 (nI b)) := (t_pf.u (Or.inl rfl)).tr ((t_pf.u (Or.inr (Or.inl rfl))).tr (t_pf.u (Or.inr (Or.inr rfl))))
      have hQ := hQ (xm_u2 (xm_u2 (xm_u2 I 0 4 (nI b)) 0 5 (nI 1)) 0 6 (nI b)) hW ⟨rfl, by decide +kernel, rfl, b, hb2, rfl⟩
      have htW := hW.tx ht
      have e4W : xm_fld (tW (xm_u2 (xm_u2 (xm_u2 I 0 4 (nI b)) 0 5 (nI 1)) 0 6 (nI b))) 0 4 0 = .int (nI b) := rfl
      have n1 : ¬ nI 1 = nI 0 := by decide +kernel
      have x44 : X 44 [some (.ref 0), some (.int lo), some (.int hi), some (.int (nI b)), some (.int (nI 0))] [] (tW (xm_u2 (xm_u2 (xm_u2 I 0 4 (nI b)) 0 5 (nI 1)) 0 6 (nI b))) 0 0 := by
        clear loop
        cases hi2 : t_in (nI 0) lo hi with
        | true =>
          refine hG _ _ _ _ _ _ ?_
          (conv => whnf)
          repeat' (first
            | ((with_reducible refine @And.intro (vp_in _ _) _ ?_ ?_); (· (first | with_reducible assumption | ((with_reducible refine t_vin ?_); decide) | ((with_reducible refine vp_in_nI ?_ ?_) <;> first | omega | decide) | (simp (disch := omega) only [xl_n, xl_m, nI_dec, nI_sb, nI_add, pk_mul]; (with_reducible refine vp_in_nI ?_ ?_) <;> first | omega | decide))); (conv => whnf))
            | (refine And.intro (by first | with_reducible assumption | exact (show tL _ = _ from rfl) | decide) ?_; (conv => whnf))
            | ((with_reducible refine @And.intro (_ = _) _ ?_ ?_); (· rfl); (conv => whnf))
            | ((with_reducible refine @And.intro (@LE.le Nat _ _ _) _ ?_ ?_); (· (first | exact Nat.zero_le _ | exact Nat.le_of_ble_eq_true rfl | omega)); (conv => whnf))
            | ((with_reducible refine @And.intro (@LT.lt Nat _ _ _) _ ?_ ?_); (· omega); (conv => whnf))
            | ((with_reducible refine @And.intro (∃ _, _ = _) _ ?_ ?_); (· exact ⟨_, rfl⟩); (conv => whnf))
            | ((with_reducible refine @And.intro (_ ∨ _) _ ?_ ?_); (· (first | exact Or.inl rfl | exact Or.inr rfl | exact t_b01 _ | assumption)); (conv => whnf))
            | ((with_reducible refine @And.intro (¬ (_ = _)) _ ?_ ?_); (· first | assumption | (with_reducible assumption)); (conv => whnf))
            | (refine hX _ _ _ _ _ _ ?_; (conv => whnf); fail_if_success show False)
            | (rw [t_si]; (conv => whnf))
            | (refine ⟨_, rfl, ?_⟩; (conv => whnf))
            | (refine ⟨_, _, rfl, ?_⟩; (conv => whnf))
            | (refine ⟨_, _, _, rfl, ?_⟩; (conv => whnf))
            | (refine ⟨_, _, _, _, rfl, ?_⟩; (conv => whnf))
            | (rw [e4W]; (conv => whnf))
            | (rw [hd]; (conv => whnf))
            | (rw [hi2]; (conv => whnf))
            | (refine ⟨_, _, (by with_reducible assumption), ?_⟩; (conv => whnf))
            | (refine ⟨_, (by first | with_reducible assumption | exact rfl), ?_⟩; (conv => whnf))
            | (refine And.intro (fun c => ?_) (fun c => ?_) <;> (first | (exact absurd c (by decide +kernel)) | (conv => whnf)))
            | fail)
          · exact hQ
          · exact hQ
        | false =>
          refine hG _ _ _ _ _ _ ?_
          (conv => whnf)
          repeat' (first
            | ((with_reducible refine @And.intro (vp_in _ _) _ ?_ ?_); (· (first | with_reducible assumption | ((with_reducible refine t_vin ?_); decide) | ((with_reducible refine vp_in_nI ?_ ?_) <;> first | omega | decide) | (simp (disch := omega) only [xl_n, xl_m, nI_dec, nI_sb, nI_add, pk_mul]; (with_reducible refine vp_in_nI ?_ ?_) <;> first | omega | decide))); (conv => whnf))
            | (refine And.intro (by first | with_reducible assumption | exact (show tL _ = _ from rfl) | decide) ?_; (conv => whnf))
            | ((with_reducible refine @And.intro (_ = _) _ ?_ ?_); (· rfl); (conv => whnf))
            | ((with_reducible refine @And.intro (@LE.le Nat _ _ _) _ ?_ ?_); (· (first | exact Nat.zero_le _ | exact Nat.le_of_ble_eq_true rfl | omega)); (conv => whnf))
            | ((with_reducible refine @And.intro (@LT.lt Nat _ _ _) _ ?_ ?_); (· omega); (conv => whnf))
            | ((with_reducible refine @And.intro (∃ _, _ = _) _ ?_ ?_); (· exact ⟨_, rfl⟩); (conv => whnf))
            | ((with_reducible refine @And.intro (_ ∨ _) _ ?_ ?_); (· (first | exact Or.inl rfl | exact Or.inr rfl | exact t_b01 _ | assumption)); (conv => whnf))
            | ((with_reducible refine @And.intro (¬ (_ = _)) _ ?_ ?_); (· first | assumption | (with_reducible assumption)); (conv => whnf))
            | (refine hX _ _ _ _ _ _ ?_; (conv => whnf); fail_if_success show False)
            | (rw [t_si]; (conv => whnf))
            | (refine ⟨_, rfl, ?_⟩; (conv => whnf))
            | (refine ⟨_, _, rfl, ?_⟩; (conv => whnf))
            | (refine ⟨_, _, _, rfl, ?_⟩; (conv => whnf))
            | (refine ⟨_, _, _, _, rfl, ?_⟩; (conv => whnf))
            | (rw [e4W]; (conv => whnf))
            | (rw [hd]; (conv => whnf))
            | (rw [hi2]; (conv => whnf))
            | (refine ⟨_, _, (by with_reducible assumption), ?_⟩; (conv => whnf))
            | (refine ⟨_, (by first | with_reducible assumption | exact rfl), ?_⟩; (conv => whnf))
            | (refine And.intro (fun c => ?_) (fun c => ?_) <;> (first | (exact absurd c (by decide +kernel)) | (conv => whnf)))
            | fail)
          · exact absurd (show nI 1 = nI 0 by assumption) n1
          · exact absurd (show nI 1 = nI 0 by assumption) n1
          · exact hQ
          · exact hQ
      clear loop
      repeat' (first
        | ((with_reducible refine @And.intro (vp_in _ _) _ ?_ ?_); (· (first | with_reducible assumption | ((with_reducible refine t_vin ?_); decide) | ((with_reducible refine vp_in_nI ?_ ?_) <;> first | omega | decide) | (simp (disch := omega) only [xl_n, xl_m, nI_dec, nI_sb, nI_add, pk_mul]; (with_reducible refine vp_in_nI ?_ ?_) <;> first | omega | decide))); (conv => whnf))
        | (refine And.intro (by first | with_reducible assumption | exact (show tL _ = _ from rfl) | decide) ?_; (conv => whnf))
        | ((with_reducible refine @And.intro (_ = _) _ ?_ ?_); (· rfl); (conv => whnf))
        | ((with_reducible refine @And.intro (@LE.le Nat _ _ _) _ ?_ ?_); (· (first | exact Nat.zero_le _ | exact Nat.le_of_ble_eq_true rfl | omega)); (conv => whnf))
        | ((with_reducible refine @And.intro (@LT.lt Nat _ _ _) _ ?_ ?_); (· omega); (conv => whnf))
        | ((with_reducible refine @And.intro (∃ _, _ = _) _ ?_ ?_); (· exact ⟨_, rfl⟩); (conv => whnf))
        | ((with_reducible refine @And.intro (_ ∨ _) _ ?_ ?_); (· (first | exact Or.inl rfl | exact Or.inr rfl | exact t_b01 _ | assumption)); (conv => whnf))
        | ((with_reducible refine @And.intro (¬ (_ = _)) _ ?_ ?_); (· first | assumption | (with_reducible assumption)); (conv => whnf))
        | (refine hX _ _ _ _ _ _ ?_; (conv => whnf); fail_if_success show False)
        | (rw [t_si]; (conv => whnf))
        | (refine ⟨_, rfl, ?_⟩; (conv => whnf))
        | (refine ⟨_, _, rfl, ?_⟩; (conv => whnf))
        | (refine ⟨_, _, _, rfl, ?_⟩; (conv => whnf))
        | (refine ⟨_, _, _, _, rfl, ?_⟩; (conv => whnf))
        | (rw [hb]; (conv => whnf))
        | (rw [e4]; (conv => whnf))
        | (rw [hd]; (conv => whnf))
        | (refine ⟨_, _, (by with_reducible assumption), ?_⟩; (conv => whnf))
        | (refine ⟨_, (by first | with_reducible assumption | exact rfl), ?_⟩; (conv => whnf))
        | (refine And.intro (fun c => ?_) (fun c => ?_) <;> (first | (exact absurd c (by decide +kernel)) | (conv => whnf)))
        | fail)
      · exact x44
      · exact absurd (f5 b) (by assumption)
      · exact absurd (h5.trans nI_0) (by assumption)
theorem ct_X11_number {Iv : xI} (hI : xm_good Iv) : xm_Ct Iv yX11_number (ws_ yX11_number cX11_number 5 (some .int)) 3 0 0 S_X11_number := xm_enter (rt := 0) (init := false) (by decide +kernel) rfl (fun h => by cases h) (Or.inl ⟨rfl, rfl⟩) (oX11_number hI) body_X11_number
theorem cv_X11_number {Iv : xI} {own : String} {cc : ByteArray} {fr pc idx : Nat} (hI : xm_good Iv) (hdg : decode cc pc = .ok (.invokevirtual idx, 3)) (hl : xm_ml own idx yX11_number) (hfr : 3 < fr) : xm_CallOK Iv own cc fr pc (pc + 3) 3 0 0 (xm_this 8 S_X11_number) := xm_callV 8 hI (ct_X11_number hI) hdg hl q2192 qs64 q145 q2193 rfl rfl (by decide +kernel) hfr (by decide)
