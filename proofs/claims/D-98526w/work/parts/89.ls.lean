/-! ===== the reference: products and sums of a statute ===== -/
set_option maxRecDepth 100000
theorem p_tks_t {f : Nat → Int32} {n k : Nat} {ch : Int32} (h : p_at f n (p_bl f n k) = ch) : p_tks f n ch k = (true, p_bl f n k + 1) := if_pos h
theorem p_tks_f {f : Nat → Int32} {n k : Nat} {ch : Int32} (h : ¬ p_at f n (p_bl f n k) = ch) : p_tks f n ch k = (false, p_bl f n k) := if_neg h
theorem p_ch_go {f : Nat → Int32} {n : Nat} {op : Int32 → Int32} {item : Nat → pR (List lC)} (p : pP) : p_go p (p_ch f n op item) = p_bd (p_go p item) fun L k => p_chF f n op item (n + 1) L k := by cases p <;> rfl
def S_X11_product (d : Nat) : xS := match d with
  | 0 => fun _ _ _ _ => False
  | d + 1 => tU fun as I Q => as = [.ref 0] ∧ ∃ f n c p, t_lin I f n d c p ∧ ∀ J, t_lf I J → t_lp I J n d c (p_go p (p_prodW f n (p_sm f n d))) → Q none J
abbrev bX11_product_0 : List xE := [(.aload_n 0, 1, 0, 0, 0), (.invokevirtual 297, 4, 0, 0, 9)]
abbrev bX11_product_4 : List xE := [(.aload_n 0, 5, 0, 0, 0), (.getfield 150, 8, 8, 5, 0), (.ifCond .ne 64, 11, 0, 72, 0), (.aload_n 0, 12, 0, 0, 0), (.bipush 42, 14, 0, 0, 0), (.invokevirtual 291, 17, 0, 1, 9), (.ifCond .eq 7, 20, 0, 24, 0), (.iconst 4, 21, 0, 0, 0), (.goto 31, 24, 0, 52, 0)]
abbrev bX11_product_24 : List xE := [(.aload_n 0, 25, 0, 0, 0), (.bipush 47, 27, 0, 0, 0), (.invokevirtual 291, 30, 0, 1, 9), (.ifCond .eq 7, 33, 0, 37, 0), (.iconst 5, 34, 0, 0, 0), (.goto 18, 37, 0, 52, 0)]
abbrev bX11_product_37 : List xE := [(.aload_n 0, 38, 0, 0, 0), (.bipush 37, 40, 0, 0, 0), (.invokevirtual 291, 43, 0, 1, 9), (.ifCond .eq 8, 46, 0, 51, 0), (.bipush 6, 48, 0, 0, 0), (.goto 4, 51, 0, 52, 0)]
abbrev bX11_product_51 : List xE := [(.iconst (-1), 52, 0, 0, 0)]
abbrev bX11_product_52 : List xE := [(.istore_n 1, 53, 0, 0, 0), (.iload_n 1, 54, 0, 0, 0), (.iconst (-1), 55, 0, 0, 0), (.if_icmp .ne 4, 58, 0, 59, 0), (.return_, 59, 0, 0, 0)]
abbrev bX11_product_59 : List xE := [(.aload_n 0, 60, 0, 0, 0), (.invokevirtual 297, 63, 0, 0, 9), (.aload_n 0, 64, 0, 0, 0), (.iload_n 1, 65, 0, 0, 0), (.iconst 0, 66, 0, 0, 0), (.invokevirtual 294, 69, 0, 2, 9), (.goto (-65), 72, 0, 4, 0)]
abbrev bX11_product_72 : List xE := [(.return_, 73, 0, 0, 0)]
abbrev kX11_product : List (Nat × List xE) := [(0, bX11_product_0), (4, bX11_product_4), (24, bX11_product_24), (37, bX11_product_37), (51, bX11_product_51), (52, bX11_product_52), (59, bX11_product_59), (72, bX11_product_72)]
abbrev lX11_product (d : Nat) : List (Nat × Nat × Nat × xS) := [(1, 0, 0, (xm_this 8 (S_X11_one (d + 1)))), (2, 0, 0, xm_this 8 S_X11_takesSign), (3, 0, 0, xm_this 8 S_X11_notes)]
theorem oX11_product_0 {Iv : xI} (hI : xm_good Iv) (d : Nat)  (ih_X11_one : xm_Ct Iv yX11_one (ws_ yX11_one cX11_one 3 none) (3 * d + 11) 0 0 (S_X11_one (d + 1))): xm_okb Iv RX11 cX11_product false (3 * d + 12) (lX11_product d) bX11_product_0 0 := xo_0 dX11_product_0 rfl trivial (xo_c rfl (xm_callV 8 hI ih_X11_one dX11_product_1 (Or.inl q2252) q2254 qs76 q145 q2255 rfl rfl (by decide +kernel) (by omega) (by decide)) (xo_n))
theorem oX11_product_4 {Iv : xI} (hI : xm_good Iv) (d : Nat)  (ih_X11_one : xm_Ct Iv yX11_one (ws_ yX11_one cX11_one 3 none) (3 * d + 11) 0 0 (S_X11_one (d + 1))): xm_okb Iv RX11 cX11_product false (3 * d + 12) (lX11_product d) bX11_product_4 4 := xo_0 dX11_product_4 rfl trivial (xo_0 dX11_product_5 rfl (xm_fg_of (Or.inl q1960) (by decide) rfl (by decide) rfl rfl (Or.inl rfl) rfl) (xo_0 dX11_product_8 rfl rfl (xo_0 dX11_product_11 rfl trivial (xo_0 dX11_product_12 rfl (xo_bipush (by decide +kernel)) (xo_c rfl (cv_X11_takesSign hI dX11_product_14 (Or.inl q2272) (by omega)) (xo_0 dX11_product_17 rfl rfl (xo_0 dX11_product_20 rfl trivial (xo_0 dX11_product_21 rfl rfl (xo_n)))))))))
theorem oX11_product_24 {Iv : xI} (hI : xm_good Iv) (d : Nat)  (ih_X11_one : xm_Ct Iv yX11_one (ws_ yX11_one cX11_one 3 none) (3 * d + 11) 0 0 (S_X11_one (d + 1))): xm_okb Iv RX11 cX11_product false (3 * d + 12) (lX11_product d) bX11_product_24 24 := xo_0 dX11_product_24 rfl trivial (xo_0 dX11_product_25 rfl (xo_bipush (by decide +kernel)) (xo_c rfl (cv_X11_takesSign hI dX11_product_27 (Or.inl q2272) (by omega)) (xo_0 dX11_product_30 rfl rfl (xo_0 dX11_product_33 rfl trivial (xo_0 dX11_product_34 rfl rfl (xo_n))))))
theorem oX11_product_37 {Iv : xI} (hI : xm_good Iv) (d : Nat)  (ih_X11_one : xm_Ct Iv yX11_one (ws_ yX11_one cX11_one 3 none) (3 * d + 11) 0 0 (S_X11_one (d + 1))): xm_okb Iv RX11 cX11_product false (3 * d + 12) (lX11_product d) bX11_product_37 37 := xo_0 dX11_product_37 rfl trivial (xo_0 dX11_product_38 rfl (xo_bipush (by decide +kernel)) (xo_c rfl (cv_X11_takesSign hI dX11_product_40 (Or.inl q2272) (by omega)) (xo_0 dX11_product_43 rfl rfl (xo_0 dX11_product_46 rfl (xo_bipush (by decide +kernel)) (xo_0 dX11_product_48 rfl rfl (xo_n))))))
theorem oX11_product_51 {Iv : xI} (hI : xm_good Iv) (d : Nat)  (ih_X11_one : xm_Ct Iv yX11_one (ws_ yX11_one cX11_one 3 none) (3 * d + 11) 0 0 (S_X11_one (d + 1))): xm_okb Iv RX11 cX11_product false (3 * d + 12) (lX11_product d) bX11_product_51 51 := xo_0 dX11_product_51 rfl trivial (xo_n)
theorem oX11_product_52 {Iv : xI} (hI : xm_good Iv) (d : Nat)  (ih_X11_one : xm_Ct Iv yX11_one (ws_ yX11_one cX11_one 3 none) (3 * d + 11) 0 0 (S_X11_one (d + 1))): xm_okb Iv RX11 cX11_product false (3 * d + 12) (lX11_product d) bX11_product_52 52 := xo_0 dX11_product_52 rfl trivial (xo_0 dX11_product_53 rfl trivial (xo_0 dX11_product_54 rfl trivial (xo_0 dX11_product_55 rfl rfl (xo_0 dX11_product_58 rfl trivial (xo_n)))))
theorem oX11_product_59 {Iv : xI} (hI : xm_good Iv) (d : Nat)  (ih_X11_one : xm_Ct Iv yX11_one (ws_ yX11_one cX11_one 3 none) (3 * d + 11) 0 0 (S_X11_one (d + 1))): xm_okb Iv RX11 cX11_product false (3 * d + 12) (lX11_product d) bX11_product_59 59 := xo_0 dX11_product_59 rfl trivial (xo_c rfl (xm_callV 8 hI ih_X11_one dX11_product_60 (Or.inl q2252) q2254 qs76 q145 q2255 rfl rfl (by decide +kernel) (by omega) (by decide)) (xo_0 dX11_product_63 rfl trivial (xo_0 dX11_product_64 rfl trivial (xo_0 dX11_product_65 rfl trivial (xo_c rfl (cv_X11_notes hI dX11_product_66 (Or.inl q2260) (by omega)) (xo_0 dX11_product_69 rfl rfl (xo_n)))))))
theorem oX11_product_72 {Iv : xI} (hI : xm_good Iv) (d : Nat)  (ih_X11_one : xm_Ct Iv yX11_one (ws_ yX11_one cX11_one 3 none) (3 * d + 11) 0 0 (S_X11_one (d + 1))): xm_okb Iv RX11 cX11_product false (3 * d + 12) (lX11_product d) bX11_product_72 72 := xo_0 dX11_product_72 rfl trivial (xo_n)
theorem oX11_product {Iv : xI} (hI : xm_good Iv) (d : Nat)  (ih_X11_one : xm_Ct Iv yX11_one (ws_ yX11_one cX11_one 3 none) (3 * d + 11) 0 0 (S_X11_one (d + 1))): ∀ q ∈ kX11_product, xm_okb Iv RX11 cX11_product false (3 * d + 12) (lX11_product d) q.2 q.1 := by
  intro q hq
  simp only [List.mem_cons, List.not_mem_nil, or_false] at hq
  rcases hq with rfl | rfl | rfl | rfl | rfl | rfl | rfl | rfl
  · exact oX11_product_0 hI d  ih_X11_one
  · exact oX11_product_4 hI d  ih_X11_one
  · exact oX11_product_24 hI d  ih_X11_one
  · exact oX11_product_37 hI d  ih_X11_one
  · exact oX11_product_51 hI d  ih_X11_one
  · exact oX11_product_52 hI d  ih_X11_one
  · exact oX11_product_59 hI d  ih_X11_one
  · exact oX11_product_72 hI d  ih_X11_one
theorem body_X11_product (d : Nat) : xm_Body 2 2 0 0 [] (lX11_product d) kX11_product (S_X11_product (d + 1)) := by
  intro X avs w Q QX hX0 hS
  have hG := xm_go [] hX0
  have hX := xm_go [4, 59] hX0
  clear hX0
  obtain ⟨I, rfl, rfl, f, n, c0, p, hin, hQ⟩ := hS
  obtain ⟨ht, hn150, hd6, hp, hc⟩ := id hin
  have hn := ht.2.1
  have hits := (l_it_sum (f := f) (n := n) d).2
  have hQ : ∀ J, t_lf I J → t_lp I J n d c0 (p_bd (p_go p (p_unit f n (p_sm f n d))) fun L k => p_chF f n l_op2 (p_unit f n (p_sm f n d)) (n + 1) L k) → Q none (tW J) := by
    intro J h1 h2
    refine hQ J h1 ?_
    show t_lp I J n d c0 (p_go p (p_ch f n l_op2 (p_unit f n (p_sm f n d))))
    rw [p_ch_go]
    exact h2
  have loopE : ∀ M e o, t_lf I M → t_lp I M n d c0 (.inl e) → (∀ J, t_lf I J → t_lp I J n d c0 (.inl e) → Q none (tW J)) → X 4 [some (.ref 0), o] [] (tW M) 0 0 := by
    clear hQ
    intro M e o hM hlp hQ
    have h5 : ¬ M 0 5 = 0 := by rw [hlp.1, ← nI_0]; exact hlp.2.1
    have fin := hQ M hM hlp
    refine hG _ _ _ _ _ _ ?_
    (conv => whnf)
    repeat' (first
      | ((with_reducible refine @And.intro (vp_in _ _) _ ?_ ?_); (· (first | with_reducible assumption | ((with_reducible refine t_vin ?_); decide) | ((with_reducible refine vp_in_nI ?_ ?_) <;> first | omega | decide) | (simp (disch := omega) only [xl_n, xl_m, nI_dec, nI_sb, nI_add, pk_mul]; (with_reducible refine vp_in_nI ?_ ?_) <;> first | omega | decide))); (conv => whnf))
      | (refine And.intro (by first | with_reducible assumption | exact (show tL _ = _ from rfl) | decide) ?_; (conv => whnf))
      | ((with_reducible refine @And.intro (_ = _) _ ?_ ?_); (· rfl); (conv => whnf))
      | ((with_reducible refine @And.intro (@LE.le Nat _ _ _) _ ?_ ?_); (· (first | exact Nat.zero_le _ | exact Nat.le_of_ble_eq_true rfl | omega)); (conv => whnf))
      | ((with_reducible refine @And.intro (@LT.lt Nat _ _ _) _ ?_ ?_); (· omega); (conv => whnf))
      | ((with_reducible refine @And.intro (∃ _, _ = _) _ ?_ ?_); (· exact ⟨_, rfl⟩); (conv => whnf))
      | ((with_reducible refine @And.intro (_ ∨ _) _ ?_ ?_); (· (first | exact Or.inl rfl | exact Or.inr rfl | exact t_b01 _ | assumption)); (conv => whnf))
      | ((with_reducible refine @And.intro (¬ (_ = _)) _ ?_ ?_); (· first | assumption | (with_reducible assumption)); (conv => whnf))
      | (refine hX _ _ _ _ _ _ ?_; (conv => whnf); fail_if_success show False)
      | (rw [t_si]; (conv => whnf))
      | (refine ⟨_, rfl, ?_⟩; (conv => whnf))
      | (refine ⟨_, _, rfl, ?_⟩; (conv => whnf))
      | (refine ⟨_, _, _, rfl, ?_⟩; (conv => whnf))
      | (refine ⟨_, _, _, _, rfl, ?_⟩; (conv => whnf))
      | (refine And.intro (fun c => ?_) (fun c => ?_) <;> (first | (exact absurd c (by decide +kernel)) | (exact absurd c (by assumption)) | (exact False.elim (c (by assumption))) | (conv => whnf)))
      | fail)
    exact fin
  have loop : ∀ u, ∀ L k M o, n < k + u → t_lf I M → t_lp I M n d c0 (.inr (L, k)) → (∀ J, t_lf I J → t_lp I J n d c0 (p_chF f n l_op2 (p_unit f n (p_sm f n d)) u L k) → Q none (tW J)) → X 4 [some (.ref 0), o] [] (tW M) 0 0 := by
    clear hQ
    intro u
    induction u with
    | zero =>
      intro L k M o hu hM hlp
      have := hlp.1.2.2
      omega
    | succ u ih =>
      intro L k M o hu hM hlp hQ
      have hck := hlp.2.2.2.1
      obtain ⟨h5n, h4, hk⟩ := t_ps_n hlp.1
      have h5 : M 0 5 = 0 := h5n.trans nI_0
      obtain ⟨hb1, hb2⟩ := p_bl_in (f := f) hk
      have hbb := p_bl_bl (f := f) hk
      unfold p_chF at hQ
      have htM := hM.tx ht
      have psM := hlp.1
      have nxt : ∀ z N, l_op2 (p_at f n (p_bl f n k)) = nI z → z ≤ 8 → p_bl f n k < n → t_lf I N → t_lp I N n d c0 (.inr (L, p_bl f n k + 1)) → X 59 [some (.ref 0), some (.int (nI z))] [] (tW N) 0 0 := by
        intro z N hz hz8 hbn hN hlp
        rw [hz, if_neg (nM_ne (by omega))] at hQ
        have in1 := hlp.lin (hN.tx ht) hn150 hd6
        refine hG _ _ _ _ _ _ ?_
        (conv => whnf)
        repeat' (first
          | (refine ⟨_,_,_,_,(by assumption),?_⟩; (conv => whnf))
          | ((with_reducible refine @And.intro (vp_in _ _) _ ?_ ?_); (· (first | with_reducible assumption | ((with_reducible refine t_vin ?_); decide) | ((with_reducible refine vp_in_nI ?_ ?_) <;> first | omega | decide) | (simp (disch := omega) only [xl_n, xl_m, nI_dec, nI_sb, nI_add, pk_mul]; (with_reducible refine vp_in_nI ?_ ?_) <;> first | omega | decide))); (conv => whnf))
          | (refine And.intro (by first | with_reducible assumption | exact (show tL _ = _ from rfl) | decide) ?_; (conv => whnf))
          | ((with_reducible refine @And.intro (_ = _) _ ?_ ?_); (· rfl); (conv => whnf))
          | ((with_reducible refine @And.intro (@LE.le Nat _ _ _) _ ?_ ?_); (· (first | exact Nat.zero_le _ | exact Nat.le_of_ble_eq_true rfl | omega)); (conv => whnf))
          | ((with_reducible refine @And.intro (@LT.lt Nat _ _ _) _ ?_ ?_); (· omega); (conv => whnf))
          | ((with_reducible refine @And.intro (∃ _, _ = _) _ ?_ ?_); (· exact ⟨_, rfl⟩); (conv => whnf))
          | ((with_reducible refine @And.intro (_ ∨ _) _ ?_ ?_); (· (first | exact Or.inl rfl | exact Or.inr rfl | exact t_b01 _ | assumption)); (conv => whnf))
          | ((with_reducible refine @And.intro (¬ (_ = _)) _ ?_ ?_); (· first | assumption | (with_reducible assumption)); (conv => whnf))
          | (refine hX _ _ _ _ _ _ ?_; (conv => whnf); fail_if_success show False)
          | (rw [t_si]; (conv => whnf))
          | (refine ⟨_, rfl, ?_⟩; (conv => whnf))
          | (refine ⟨_, _, rfl, ?_⟩; (conv => whnf))
          | (refine ⟨_, _, _, rfl, ?_⟩; (conv => whnf))
          | (refine ⟨_, _, _, _, rfl, ?_⟩; (conv => whnf))
          | (refine And.intro (fun c => ?_) (fun c => ?_) <;> (first | (exact absurd c (by decide +kernel)) | (conv => whnf)))
          | fail)
        intro J2 hJ2 hp2
        (conv => whnf)
        have lp2 : t_lp I J2 n d c0 (p_bd ((p_unit f n (p_sm f n d)) (p_bl f n k + 1)) fun B k => .inr (L ++ B, k)) := hlp.more hp2
        have lf2 := hN.tr hJ2
        clear hp2 in1
        cases hq : (p_unit f n (p_sm f n d)) (p_bl f n k + 1) with
        | inl e =>
          rw [hq] at lp2 hQ
          have lp2 : t_lp I J2 n d c0 (.inl e) := lp2
          have h5 : ¬ J2 0 5 = nI 0 := by rw [lp2.1]; exact lp2.2.1
          have fin := loopE J2 e (some (.int (nI z))) lf2 lp2 hQ
          clear loopE ih
          repeat' (first
            | ((with_reducible refine @And.intro (vp_in _ _) _ ?_ ?_); (· (first | with_reducible assumption | ((with_reducible refine t_vin ?_); decide) | ((with_reducible refine vp_in_nI ?_ ?_) <;> first | omega | decide) | (simp (disch := omega) only [xl_n, xl_m, nI_dec, nI_sb, nI_add, pk_mul]; (with_reducible refine vp_in_nI ?_ ?_) <;> first | omega | decide))); (conv => whnf))
            | (refine And.intro (by first | with_reducible assumption | exact (show tL _ = _ from rfl) | decide) ?_; (conv => whnf))
            | ((with_reducible refine @And.intro (_ = _) _ ?_ ?_); (· rfl); (conv => whnf))
            | ((with_reducible refine @And.intro (@LE.le Nat _ _ _) _ ?_ ?_); (· (first | exact Nat.zero_le _ | exact Nat.le_of_ble_eq_true rfl | omega)); (conv => whnf))
            | ((with_reducible refine @And.intro (@LT.lt Nat _ _ _) _ ?_ ?_); (· omega); (conv => whnf))
            | ((with_reducible refine @And.intro (∃ _, _ = _) _ ?_ ?_); (· exact ⟨_, rfl⟩); (conv => whnf))
            | ((with_reducible refine @And.intro (_ ∨ _) _ ?_ ?_); (· (first | exact Or.inl rfl | exact Or.inr rfl | exact t_b01 _ | assumption)); (conv => whnf))
            | ((with_reducible refine @And.intro (¬ (_ = _)) _ ?_ ?_); (· first | assumption | (with_reducible assumption)); (conv => whnf))
            | (refine hX _ _ _ _ _ _ ?_; (conv => whnf); fail_if_success show False)
            | (rw [t_si]; (conv => whnf))
            | (refine ⟨_, rfl, ?_⟩; (conv => whnf))
            | (refine ⟨_, _, rfl, ?_⟩; (conv => whnf))
            | (refine ⟨_, _, _, rfl, ?_⟩; (conv => whnf))
            | (refine ⟨_, _, _, _, rfl, ?_⟩; (conv => whnf))
            | (refine And.intro (fun c => ?_) (fun c => ?_) <;> (first | (exact absurd c (by decide +kernel)) | (exact absurd c (by assumption)) | (exact False.elim (c (by assumption))) | (conv => whnf)))
            | fail)
          exact fin
        | inr e =>
          obtain ⟨B, k2⟩ := e
          rw [hq] at lp2 hQ
          have lp2 : t_lp I J2 n d c0 (.inr (L ++ B, k2)) := lp2
          have hB := l_it_unit hits _ _ _ (by omega) hq
          have lp3 := lp2.note (z := nI z) (v := nI 0) (by rw [List.length_append]; omega)
          have hc160 : c0 + (L ++ B).length < 160 := by rw [List.length_append]; omega
          have lf3 : t_lf I (xm_u2 (xm_u2 (xm_u2 J2 (400 + (c0 + (L ++ B).length)) 0 (nI z)) (400 + (c0 + (L ++ B).length)) 1 (nI 0)) 0 28 (nI (c0 + (L ++ B).length + 1))) := ((lf2.tr (t_lf.u (by omega))).tr (t_lf.u (by omega))).tr (t_lf.u0 (by omega))
          have h5 := lp2.1.1
          have h28 := lp2.2.2.1
          have fin := ih _ _ _ (some (.int (nI z))) (by omega) lf3 lp3 hQ
          clear loopE ih
          repeat' (first
            | (refine ⟨_,(by assumption),(by assumption),?_⟩; (conv => whnf))
            | ((with_reducible refine @And.intro (vp_in _ _) _ ?_ ?_); (· (first | with_reducible assumption | ((with_reducible refine t_vin ?_); decide) | ((with_reducible refine vp_in_nI ?_ ?_) <;> first | omega | decide) | (simp (disch := omega) only [xl_n, xl_m, nI_dec, nI_sb, nI_add, pk_mul]; (with_reducible refine vp_in_nI ?_ ?_) <;> first | omega | decide))); (conv => whnf))
            | (refine And.intro (by first | with_reducible assumption | exact (show tL _ = _ from rfl) | decide) ?_; (conv => whnf))
            | ((with_reducible refine @And.intro (_ = _) _ ?_ ?_); (· rfl); (conv => whnf))
            | ((with_reducible refine @And.intro (@LE.le Nat _ _ _) _ ?_ ?_); (· (first | exact Nat.zero_le _ | exact Nat.le_of_ble_eq_true rfl | omega)); (conv => whnf))
            | ((with_reducible refine @And.intro (@LT.lt Nat _ _ _) _ ?_ ?_); (· omega); (conv => whnf))
            | ((with_reducible refine @And.intro (∃ _, _ = _) _ ?_ ?_); (· exact ⟨_, rfl⟩); (conv => whnf))
            | ((with_reducible refine @And.intro (_ ∨ _) _ ?_ ?_); (· (first | exact Or.inl rfl | exact Or.inr rfl | exact t_b01 _ | assumption)); (conv => whnf))
            | ((with_reducible refine @And.intro (¬ (_ = _)) _ ?_ ?_); (· first | assumption | (with_reducible assumption)); (conv => whnf))
            | (refine hX _ _ _ _ _ _ ?_; (conv => whnf); fail_if_success show False)
            | (rw [t_si]; (conv => whnf))
            | (refine ⟨_, rfl, ?_⟩; (conv => whnf))
            | (refine ⟨_, _, rfl, ?_⟩; (conv => whnf))
            | (refine ⟨_, _, _, rfl, ?_⟩; (conv => whnf))
            | (refine ⟨_, _, _, _, rfl, ?_⟩; (conv => whnf))
            | (refine And.intro (fun c => ?_) (fun c => ?_) <;> (first | (exact absurd c (by decide +kernel)) | (exact absurd c (by assumption)) | (exact False.elim (c (by assumption))) | (conv => whnf)))
            | fail)
          exact fin
      clear ih loopE
      by_cases a0 : p_at f n (p_bl f n k) = nI 42
      · have h42 : ¬ nI 42 = nM := by decide +kernel
        have h47 : ¬ nI 47 = nM := by decide +kernel
        have h37 : ¬ nI 37 = nM := by decide +kernel
        refine hG _ _ _ _ _ _ ?_
        (conv => whnf)
        repeat' (first
          | ((with_reducible refine @And.intro (vp_in _ _) _ ?_ ?_); (· (first | with_reducible assumption | ((with_reducible refine t_vin ?_); decide) | ((with_reducible refine vp_in_nI ?_ ?_) <;> first | omega | decide) | (simp (disch := omega) only [xl_n, xl_m, nI_dec, nI_sb, nI_add, pk_mul]; (with_reducible refine vp_in_nI ?_ ?_) <;> first | omega | decide))); (conv => whnf))
          | (refine And.intro (by first | with_reducible assumption | exact (show tL _ = _ from rfl) | decide) ?_; (conv => whnf))
          | ((with_reducible refine @And.intro (_ = _) _ ?_ ?_); (· rfl); (conv => whnf))
          | ((with_reducible refine @And.intro (@LE.le Nat _ _ _) _ ?_ ?_); (· (first | exact Nat.zero_le _ | exact Nat.le_of_ble_eq_true rfl | omega)); (conv => whnf))
          | ((with_reducible refine @And.intro (@LT.lt Nat _ _ _) _ ?_ ?_); (· omega); (conv => whnf))
          | ((with_reducible refine @And.intro (∃ _, _ = _) _ ?_ ?_); (· exact ⟨_, rfl⟩); (conv => whnf))
          | ((with_reducible refine @And.intro (_ ∨ _) _ ?_ ?_); (· (first | exact Or.inl rfl | exact Or.inr rfl | exact t_b01 _ | assumption)); (conv => whnf))
          | ((with_reducible refine @And.intro (¬ (_ = _)) _ ?_ ?_); (· first | assumption | (with_reducible assumption)); (conv => whnf))
          | (refine hX _ _ _ _ _ _ ?_; (conv => whnf); fail_if_success show False)
          | (rw [t_si]; (conv => whnf))
          | (refine ⟨_, rfl, ?_⟩; (conv => whnf))
          | (refine ⟨_, _, rfl, ?_⟩; (conv => whnf))
          | (refine ⟨_, _, _, rfl, ?_⟩; (conv => whnf))
          | (refine ⟨_, _, _, _, rfl, ?_⟩; (conv => whnf))
          | (refine ⟨_, _, (by with_reducible assumption), ?_⟩; (conv => whnf))
          | (refine ⟨_, (by first | with_reducible assumption | exact rfl), ?_⟩; (conv => whnf))
          | (refine And.intro (fun c => ?_) (fun c => ?_) <;> (first | (exact absurd c (by decide +kernel)) | (exact absurd c (by assumption)) | (exact False.elim (c (by assumption))) | (conv => whnf)))
          | fail)
        intro J0 hJ0 hp0
        (conv => whnf)
        have hp0 : t_ps J0 n (.inr (p_tks f n (nI 42) (k)).2) := hp0
        rw [p_tks_t a0] at hp0
        have eb0 : p_tkb (.inr (k)) (p_tks f n (Int32.ofInt 42)) = true := by
          show (p_tks f n (nI 42) (k)).1 = _
          rw [p_tks_t a0]
        have lf0 := hM.tr hJ0.l
        have lp0 := hlp.pf0 hJ0 hp0 (by first | omega | (simp only; omega))
        have tx0 := hJ0.tx htM
        have fin := nxt 4 J0 (by unfold l_op2;  rw [if_pos a0]) (by omega) (p_at_lt a0 (by decide +kernel)) lf0 lp0
        clear nxt
        repeat' (first
          | ((with_reducible refine @And.intro (vp_in _ _) _ ?_ ?_); (· (first | with_reducible assumption | ((with_reducible refine t_vin ?_); decide) | ((with_reducible refine vp_in_nI ?_ ?_) <;> first | omega | decide) | (simp (disch := omega) only [xl_n, xl_m, nI_dec, nI_sb, nI_add, pk_mul]; (with_reducible refine vp_in_nI ?_ ?_) <;> first | omega | decide))); (conv => whnf))
          | (refine And.intro (by first | with_reducible assumption | exact (show tL _ = _ from rfl) | decide) ?_; (conv => whnf))
          | ((with_reducible refine @And.intro (_ = _) _ ?_ ?_); (· rfl); (conv => whnf))
          | ((with_reducible refine @And.intro (@LE.le Nat _ _ _) _ ?_ ?_); (· (first | exact Nat.zero_le _ | exact Nat.le_of_ble_eq_true rfl | omega)); (conv => whnf))
          | ((with_reducible refine @And.intro (@LT.lt Nat _ _ _) _ ?_ ?_); (· omega); (conv => whnf))
          | ((with_reducible refine @And.intro (∃ _, _ = _) _ ?_ ?_); (· exact ⟨_, rfl⟩); (conv => whnf))
          | ((with_reducible refine @And.intro (_ ∨ _) _ ?_ ?_); (· (first | exact Or.inl rfl | exact Or.inr rfl | exact t_b01 _ | assumption)); (conv => whnf))
          | ((with_reducible refine @And.intro (¬ (_ = _)) _ ?_ ?_); (· first | assumption | (with_reducible assumption)); (conv => whnf))
          | (refine hX _ _ _ _ _ _ ?_; (conv => whnf); fail_if_success show False)
          | (rw [t_si]; (conv => whnf))
          | (refine ⟨_, rfl, ?_⟩; (conv => whnf))
          | (refine ⟨_, _, rfl, ?_⟩; (conv => whnf))
          | (refine ⟨_, _, _, rfl, ?_⟩; (conv => whnf))
          | (refine ⟨_, _, _, _, rfl, ?_⟩; (conv => whnf))
          | (rw [eb0]; (conv => whnf))
          | (refine ⟨_, _, (by with_reducible assumption), ?_⟩; (conv => whnf))
          | (refine ⟨_, (by first | with_reducible assumption | exact rfl), ?_⟩; (conv => whnf))
          | (refine And.intro (fun c => ?_) (fun c => ?_) <;> (first | (exact absurd c (by decide +kernel)) | (exact absurd c (by assumption)) | (exact False.elim (c (by assumption))) | (conv => whnf)))
          | fail)
        exact fin
      · by_cases a1 : p_at f n (p_bl f n k) = nI 47
        · have h42 : ¬ nI 42 = nM := by decide +kernel
          have h47 : ¬ nI 47 = nM := by decide +kernel
          have h37 : ¬ nI 37 = nM := by decide +kernel
          refine hG _ _ _ _ _ _ ?_
          (conv => whnf)
          repeat' (first
            | ((with_reducible refine @And.intro (vp_in _ _) _ ?_ ?_); (· (first | with_reducible assumption | ((with_reducible refine t_vin ?_); decide) | ((with_reducible refine vp_in_nI ?_ ?_) <;> first | omega | decide) | (simp (disch := omega) only [xl_n, xl_m, nI_dec, nI_sb, nI_add, pk_mul]; (with_reducible refine vp_in_nI ?_ ?_) <;> first | omega | decide))); (conv => whnf))
            | (refine And.intro (by first | with_reducible assumption | exact (show tL _ = _ from rfl) | decide) ?_; (conv => whnf))
            | ((with_reducible refine @And.intro (_ = _) _ ?_ ?_); (· rfl); (conv => whnf))
            | ((with_reducible refine @And.intro (@LE.le Nat _ _ _) _ ?_ ?_); (· (first | exact Nat.zero_le _ | exact Nat.le_of_ble_eq_true rfl | omega)); (conv => whnf))
            | ((with_reducible refine @And.intro (@LT.lt Nat _ _ _) _ ?_ ?_); (· omega); (conv => whnf))
            | ((with_reducible refine @And.intro (∃ _, _ = _) _ ?_ ?_); (· exact ⟨_, rfl⟩); (conv => whnf))
            | ((with_reducible refine @And.intro (_ ∨ _) _ ?_ ?_); (· (first | exact Or.inl rfl | exact Or.inr rfl | exact t_b01 _ | assumption)); (conv => whnf))
            | ((with_reducible refine @And.intro (¬ (_ = _)) _ ?_ ?_); (· first | assumption | (with_reducible assumption)); (conv => whnf))
            | (refine hX _ _ _ _ _ _ ?_; (conv => whnf); fail_if_success show False)
            | (rw [t_si]; (conv => whnf))
            | (refine ⟨_, rfl, ?_⟩; (conv => whnf))
            | (refine ⟨_, _, rfl, ?_⟩; (conv => whnf))
            | (refine ⟨_, _, _, rfl, ?_⟩; (conv => whnf))
            | (refine ⟨_, _, _, _, rfl, ?_⟩; (conv => whnf))
            | (refine ⟨_, _, (by with_reducible assumption), ?_⟩; (conv => whnf))
            | (refine ⟨_, (by first | with_reducible assumption | exact rfl), ?_⟩; (conv => whnf))
            | (refine And.intro (fun c => ?_) (fun c => ?_) <;> (first | (exact absurd c (by decide +kernel)) | (exact absurd c (by assumption)) | (exact False.elim (c (by assumption))) | (conv => whnf)))
            | fail)
          intro J0 hJ0 hp0
          (conv => whnf)
          have hp0 : t_ps J0 n (.inr (p_tks f n (nI 42) (k)).2) := hp0
          rw [p_tks_f a0] at hp0
          have eb0 : p_tkb (.inr (k)) (p_tks f n (Int32.ofInt 42)) = false := by
            show (p_tks f n (nI 42) (k)).1 = _
            rw [p_tks_f a0]
          have lf0 := hM.tr hJ0.l
          have lp0 := hlp.pf0 hJ0 hp0 (by first | omega | (simp only; omega))
          have tx0 := hJ0.tx htM
          repeat' (first
            | ((with_reducible refine @And.intro (vp_in _ _) _ ?_ ?_); (· (first | with_reducible assumption | ((with_reducible refine t_vin ?_); decide) | ((with_reducible refine vp_in_nI ?_ ?_) <;> first | omega | decide) | (simp (disch := omega) only [xl_n, xl_m, nI_dec, nI_sb, nI_add, pk_mul]; (with_reducible refine vp_in_nI ?_ ?_) <;> first | omega | decide))); (conv => whnf))
            | (refine And.intro (by first | with_reducible assumption | exact (show tL _ = _ from rfl) | decide) ?_; (conv => whnf))
            | ((with_reducible refine @And.intro (_ = _) _ ?_ ?_); (· rfl); (conv => whnf))
            | ((with_reducible refine @And.intro (@LE.le Nat _ _ _) _ ?_ ?_); (· (first | exact Nat.zero_le _ | exact Nat.le_of_ble_eq_true rfl | omega)); (conv => whnf))
            | ((with_reducible refine @And.intro (@LT.lt Nat _ _ _) _ ?_ ?_); (· omega); (conv => whnf))
            | ((with_reducible refine @And.intro (∃ _, _ = _) _ ?_ ?_); (· exact ⟨_, rfl⟩); (conv => whnf))
            | ((with_reducible refine @And.intro (_ ∨ _) _ ?_ ?_); (· (first | exact Or.inl rfl | exact Or.inr rfl | exact t_b01 _ | assumption)); (conv => whnf))
            | ((with_reducible refine @And.intro (¬ (_ = _)) _ ?_ ?_); (· first | assumption | (with_reducible assumption)); (conv => whnf))
            | (refine hX _ _ _ _ _ _ ?_; (conv => whnf); fail_if_success show False)
            | (rw [t_si]; (conv => whnf))
            | (refine ⟨_, rfl, ?_⟩; (conv => whnf))
            | (refine ⟨_, _, rfl, ?_⟩; (conv => whnf))
            | (refine ⟨_, _, _, rfl, ?_⟩; (conv => whnf))
            | (refine ⟨_, _, _, _, rfl, ?_⟩; (conv => whnf))
            | (rw [eb0]; (conv => whnf))
            | (refine ⟨_, _, (by with_reducible assumption), ?_⟩; (conv => whnf))
            | (refine ⟨_, (by first | with_reducible assumption | exact rfl), ?_⟩; (conv => whnf))
            | (refine And.intro (fun c => ?_) (fun c => ?_) <;> (first | (exact absurd c (by decide +kernel)) | (exact absurd c (by assumption)) | (exact False.elim (c (by assumption))) | (conv => whnf)))
            | fail)
          intro J1 hJ1 hp1
          (conv => whnf)
          have hp1 : t_ps J1 n (.inr (p_tks f n (nI 47) (p_bl f n k)).2) := hp1
          rw [p_tks_t (by rw [hbb]; exact a1), hbb] at hp1
          have eb1 : p_tkb (.inr (p_bl f n k)) (p_tks f n (Int32.ofInt 47)) = true := by
            show (p_tks f n (nI 47) (p_bl f n k)).1 = _
            rw [p_tks_t (by rw [hbb]; exact a1)]
          have lf1 := lf0.tr hJ1.l
          have lp1 := lp0.pf0 hJ1 hp1 (by first | omega | (simp only; omega))
          have tx1 := hJ1.tx tx0
          have fin := nxt 5 J1 (by unfold l_op2; rw [if_neg a0]; rw [if_pos a1]) (by omega) (p_at_lt a1 (by decide +kernel)) lf1 lp1
          clear nxt
          repeat' (first
            | ((with_reducible refine @And.intro (vp_in _ _) _ ?_ ?_); (· (first | with_reducible assumption | ((with_reducible refine t_vin ?_); decide) | ((with_reducible refine vp_in_nI ?_ ?_) <;> first | omega | decide) | (simp (disch := omega) only [xl_n, xl_m, nI_dec, nI_sb, nI_add, pk_mul]; (with_reducible refine vp_in_nI ?_ ?_) <;> first | omega | decide))); (conv => whnf))
            | (refine And.intro (by first | with_reducible assumption | exact (show tL _ = _ from rfl) | decide) ?_; (conv => whnf))
            | ((with_reducible refine @And.intro (_ = _) _ ?_ ?_); (· rfl); (conv => whnf))
            | ((with_reducible refine @And.intro (@LE.le Nat _ _ _) _ ?_ ?_); (· (first | exact Nat.zero_le _ | exact Nat.le_of_ble_eq_true rfl | omega)); (conv => whnf))
            | ((with_reducible refine @And.intro (@LT.lt Nat _ _ _) _ ?_ ?_); (· omega); (conv => whnf))
            | ((with_reducible refine @And.intro (∃ _, _ = _) _ ?_ ?_); (· exact ⟨_, rfl⟩); (conv => whnf))
            | ((with_reducible refine @And.intro (_ ∨ _) _ ?_ ?_); (· (first | exact Or.inl rfl | exact Or.inr rfl | exact t_b01 _ | assumption)); (conv => whnf))
            | ((with_reducible refine @And.intro (¬ (_ = _)) _ ?_ ?_); (· first | assumption | (with_reducible assumption)); (conv => whnf))
            | (refine hX _ _ _ _ _ _ ?_; (conv => whnf); fail_if_success show False)
            | (rw [t_si]; (conv => whnf))
            | (refine ⟨_, rfl, ?_⟩; (conv => whnf))
            | (refine ⟨_, _, rfl, ?_⟩; (conv => whnf))
            | (refine ⟨_, _, _, rfl, ?_⟩; (conv => whnf))
            | (refine ⟨_, _, _, _, rfl, ?_⟩; (conv => whnf))
            | (rw [eb1]; (conv => whnf))
            | (refine ⟨_, _, (by with_reducible assumption), ?_⟩; (conv => whnf))
            | (refine ⟨_, (by first | with_reducible assumption | exact rfl), ?_⟩; (conv => whnf))
            | (refine And.intro (fun c => ?_) (fun c => ?_) <;> (first | (exact absurd c (by decide +kernel)) | (exact absurd c (by assumption)) | (exact False.elim (c (by assumption))) | (conv => whnf)))
            | fail)
          exact fin
        · by_cases a2 : p_at f n (p_bl f n k) = nI 37
          · have h42 : ¬ nI 42 = nM := by decide +kernel
            have h47 : ¬ nI 47 = nM := by decide +kernel
            have h37 : ¬ nI 37 = nM := by decide +kernel
            refine hG _ _ _ _ _ _ ?_
            (conv => whnf)
            repeat' (first
              | ((with_reducible refine @And.intro (vp_in _ _) _ ?_ ?_); (· (first | with_reducible assumption | ((with_reducible refine t_vin ?_); decide) | ((with_reducible refine vp_in_nI ?_ ?_) <;> first | omega | decide) | (simp (disch := omega) only [xl_n, xl_m, nI_dec, nI_sb, nI_add, pk_mul]; (with_reducible refine vp_in_nI ?_ ?_) <;> first | omega | decide))); (conv => whnf))
              | (refine And.intro (by first | with_reducible assumption | exact (show tL _ = _ from rfl) | decide) ?_; (conv => whnf))
              | ((with_reducible refine @And.intro (_ = _) _ ?_ ?_); (· rfl); (conv => whnf))
              | ((with_reducible refine @And.intro (@LE.le Nat _ _ _) _ ?_ ?_); (· (first | exact Nat.zero_le _ | exact Nat.le_of_ble_eq_true rfl | omega)); (conv => whnf))
              | ((with_reducible refine @And.intro (@LT.lt Nat _ _ _) _ ?_ ?_); (· omega); (conv => whnf))
              | ((with_reducible refine @And.intro (∃ _, _ = _) _ ?_ ?_); (· exact ⟨_, rfl⟩); (conv => whnf))
              | ((with_reducible refine @And.intro (_ ∨ _) _ ?_ ?_); (· (first | exact Or.inl rfl | exact Or.inr rfl | exact t_b01 _ | assumption)); (conv => whnf))
              | ((with_reducible refine @And.intro (¬ (_ = _)) _ ?_ ?_); (· first | assumption | (with_reducible assumption)); (conv => whnf))
              | (refine hX _ _ _ _ _ _ ?_; (conv => whnf); fail_if_success show False)
              | (rw [t_si]; (conv => whnf))
              | (refine ⟨_, rfl, ?_⟩; (conv => whnf))
              | (refine ⟨_, _, rfl, ?_⟩; (conv => whnf))
              | (refine ⟨_, _, _, rfl, ?_⟩; (conv => whnf))
              | (refine ⟨_, _, _, _, rfl, ?_⟩; (conv => whnf))
              | (refine ⟨_, _, (by with_reducible assumption), ?_⟩; (conv => whnf))
              | (refine ⟨_, (by first | with_reducible assumption | exact rfl), ?_⟩; (conv => whnf))
              | (refine And.intro (fun c => ?_) (fun c => ?_) <;> (first | (exact absurd c (by decide +kernel)) | (exact absurd c (by assumption)) | (exact False.elim (c (by assumption))) | (conv => whnf)))
              | fail)
            intro J0 hJ0 hp0
            (conv => whnf)
            have hp0 : t_ps J0 n (.inr (p_tks f n (nI 42) (k)).2) := hp0
            rw [p_tks_f a0] at hp0
            have eb0 : p_tkb (.inr (k)) (p_tks f n (Int32.ofInt 42)) = false := by
              show (p_tks f n (nI 42) (k)).1 = _
              rw [p_tks_f a0]
            have lf0 := hM.tr hJ0.l
            have lp0 := hlp.pf0 hJ0 hp0 (by first | omega | (simp only; omega))
            have tx0 := hJ0.tx htM
            repeat' (first
              | ((with_reducible refine @And.intro (vp_in _ _) _ ?_ ?_); (· (first | with_reducible assumption | ((with_reducible refine t_vin ?_); decide) | ((with_reducible refine vp_in_nI ?_ ?_) <;> first | omega | decide) | (simp (disch := omega) only [xl_n, xl_m, nI_dec, nI_sb, nI_add, pk_mul]; (with_reducible refine vp_in_nI ?_ ?_) <;> first | omega | decide))); (conv => whnf))
              | (refine And.intro (by first | with_reducible assumption | exact (show tL _ = _ from rfl) | decide) ?_; (conv => whnf))
              | ((with_reducible refine @And.intro (_ = _) _ ?_ ?_); (· rfl); (conv => whnf))
              | ((with_reducible refine @And.intro (@LE.le Nat _ _ _) _ ?_ ?_); (· (first | exact Nat.zero_le _ | exact Nat.le_of_ble_eq_true rfl | omega)); (conv => whnf))
              | ((with_reducible refine @And.intro (@LT.lt Nat _ _ _) _ ?_ ?_); (· omega); (conv => whnf))
              | ((with_reducible refine @And.intro (∃ _, _ = _) _ ?_ ?_); (· exact ⟨_, rfl⟩); (conv => whnf))
              | ((with_reducible refine @And.intro (_ ∨ _) _ ?_ ?_); (· (first | exact Or.inl rfl | exact Or.inr rfl | exact t_b01 _ | assumption)); (conv => whnf))
              | ((with_reducible refine @And.intro (¬ (_ = _)) _ ?_ ?_); (· first | assumption | (with_reducible assumption)); (conv => whnf))
              | (refine hX _ _ _ _ _ _ ?_; (conv => whnf); fail_if_success show False)
              | (rw [t_si]; (conv => whnf))
              | (refine ⟨_, rfl, ?_⟩; (conv => whnf))
              | (refine ⟨_, _, rfl, ?_⟩; (conv => whnf))
              | (refine ⟨_, _, _, rfl, ?_⟩; (conv => whnf))
              | (refine ⟨_, _, _, _, rfl, ?_⟩; (conv => whnf))
              | (rw [eb0]; (conv => whnf))
              | (refine ⟨_, _, (by with_reducible assumption), ?_⟩; (conv => whnf))
              | (refine ⟨_, (by first | with_reducible assumption | exact rfl), ?_⟩; (conv => whnf))
              | (refine And.intro (fun c => ?_) (fun c => ?_) <;> (first | (exact absurd c (by decide +kernel)) | (exact absurd c (by assumption)) | (exact False.elim (c (by assumption))) | (conv => whnf)))
              | fail)
            intro J1 hJ1 hp1
            (conv => whnf)
            have hp1 : t_ps J1 n (.inr (p_tks f n (nI 47) (p_bl f n k)).2) := hp1
            rw [p_tks_f (by rw [hbb]; exact a1), hbb] at hp1
            have eb1 : p_tkb (.inr (p_bl f n k)) (p_tks f n (Int32.ofInt 47)) = false := by
              show (p_tks f n (nI 47) (p_bl f n k)).1 = _
              rw [p_tks_f (by rw [hbb]; exact a1)]
            have lf1 := lf0.tr hJ1.l
            have lp1 := lp0.pf0 hJ1 hp1 (by first | omega | (simp only; omega))
            have tx1 := hJ1.tx tx0
            repeat' (first
              | ((with_reducible refine @And.intro (vp_in _ _) _ ?_ ?_); (· (first | with_reducible assumption | ((with_reducible refine t_vin ?_); decide) | ((with_reducible refine vp_in_nI ?_ ?_) <;> first | omega | decide) | (simp (disch := omega) only [xl_n, xl_m, nI_dec, nI_sb, nI_add, pk_mul]; (with_reducible refine vp_in_nI ?_ ?_) <;> first | omega | decide))); (conv => whnf))
              | (refine And.intro (by first | with_reducible assumption | exact (show tL _ = _ from rfl) | decide) ?_; (conv => whnf))
              | ((with_reducible refine @And.intro (_ = _) _ ?_ ?_); (· rfl); (conv => whnf))
              | ((with_reducible refine @And.intro (@LE.le Nat _ _ _) _ ?_ ?_); (· (first | exact Nat.zero_le _ | exact Nat.le_of_ble_eq_true rfl | omega)); (conv => whnf))
              | ((with_reducible refine @And.intro (@LT.lt Nat _ _ _) _ ?_ ?_); (· omega); (conv => whnf))
              | ((with_reducible refine @And.intro (∃ _, _ = _) _ ?_ ?_); (· exact ⟨_, rfl⟩); (conv => whnf))
              | ((with_reducible refine @And.intro (_ ∨ _) _ ?_ ?_); (· (first | exact Or.inl rfl | exact Or.inr rfl | exact t_b01 _ | assumption)); (conv => whnf))
              | ((with_reducible refine @And.intro (¬ (_ = _)) _ ?_ ?_); (· first | assumption | (with_reducible assumption)); (conv => whnf))
              | (refine hX _ _ _ _ _ _ ?_; (conv => whnf); fail_if_success show False)
              | (rw [t_si]; (conv => whnf))
              | (refine ⟨_, rfl, ?_⟩; (conv => whnf))
              | (refine ⟨_, _, rfl, ?_⟩; (conv => whnf))
              | (refine ⟨_, _, _, rfl, ?_⟩; (conv => whnf))
              | (refine ⟨_, _, _, _, rfl, ?_⟩; (conv => whnf))
              | (rw [eb1]; (conv => whnf))
              | (refine ⟨_, _, (by with_reducible assumption), ?_⟩; (conv => whnf))
              | (refine ⟨_, (by first | with_reducible assumption | exact rfl), ?_⟩; (conv => whnf))
              | (refine And.intro (fun c => ?_) (fun c => ?_) <;> (first | (exact absurd c (by decide +kernel)) | (exact absurd c (by assumption)) | (exact False.elim (c (by assumption))) | (conv => whnf)))
              | fail)
            intro J2 hJ2 hp2
            (conv => whnf)
            have hp2 : t_ps J2 n (.inr (p_tks f n (nI 37) (p_bl f n k)).2) := hp2
            rw [p_tks_t (by rw [hbb]; exact a2), hbb] at hp2
            have eb2 : p_tkb (.inr (p_bl f n k)) (p_tks f n (Int32.ofInt 37)) = true := by
              show (p_tks f n (nI 37) (p_bl f n k)).1 = _
              rw [p_tks_t (by rw [hbb]; exact a2)]
            have lf2 := lf1.tr hJ2.l
            have lp2 := lp1.pf0 hJ2 hp2 (by first | omega | (simp only; omega))
            have tx2 := hJ2.tx tx1
            have fin := nxt 6 J2 (by unfold l_op2; rw [if_neg a0]; rw [if_neg a1]; rw [if_pos a2]) (by omega) (p_at_lt a2 (by decide +kernel)) lf2 lp2
            clear nxt
            repeat' (first
              | ((with_reducible refine @And.intro (vp_in _ _) _ ?_ ?_); (· (first | with_reducible assumption | ((with_reducible refine t_vin ?_); decide) | ((with_reducible refine vp_in_nI ?_ ?_) <;> first | omega | decide) | (simp (disch := omega) only [xl_n, xl_m, nI_dec, nI_sb, nI_add, pk_mul]; (with_reducible refine vp_in_nI ?_ ?_) <;> first | omega | decide))); (conv => whnf))
              | (refine And.intro (by first | with_reducible assumption | exact (show tL _ = _ from rfl) | decide) ?_; (conv => whnf))
              | ((with_reducible refine @And.intro (_ = _) _ ?_ ?_); (· rfl); (conv => whnf))
              | ((with_reducible refine @And.intro (@LE.le Nat _ _ _) _ ?_ ?_); (· (first | exact Nat.zero_le _ | exact Nat.le_of_ble_eq_true rfl | omega)); (conv => whnf))
              | ((with_reducible refine @And.intro (@LT.lt Nat _ _ _) _ ?_ ?_); (· omega); (conv => whnf))
              | ((with_reducible refine @And.intro (∃ _, _ = _) _ ?_ ?_); (· exact ⟨_, rfl⟩); (conv => whnf))
              | ((with_reducible refine @And.intro (_ ∨ _) _ ?_ ?_); (· (first | exact Or.inl rfl | exact Or.inr rfl | exact t_b01 _ | assumption)); (conv => whnf))
              | ((with_reducible refine @And.intro (¬ (_ = _)) _ ?_ ?_); (· first | assumption | (with_reducible assumption)); (conv => whnf))
              | (refine hX _ _ _ _ _ _ ?_; (conv => whnf); fail_if_success show False)
              | (rw [t_si]; (conv => whnf))
              | (refine ⟨_, rfl, ?_⟩; (conv => whnf))
              | (refine ⟨_, _, rfl, ?_⟩; (conv => whnf))
              | (refine ⟨_, _, _, rfl, ?_⟩; (conv => whnf))
              | (refine ⟨_, _, _, _, rfl, ?_⟩; (conv => whnf))
              | (rw [eb2]; (conv => whnf))
              | (refine ⟨_, _, (by with_reducible assumption), ?_⟩; (conv => whnf))
              | (refine ⟨_, (by first | with_reducible assumption | exact rfl), ?_⟩; (conv => whnf))
              | (refine And.intro (fun c => ?_) (fun c => ?_) <;> (first | (exact absurd c (by decide +kernel)) | (exact absurd c (by assumption)) | (exact False.elim (c (by assumption))) | (conv => whnf)))
              | fail)
            exact fin
          · have h42 : ¬ nI 42 = nM := by decide +kernel
            have h47 : ¬ nI 47 = nM := by decide +kernel
            have h37 : ¬ nI 37 = nM := by decide +kernel
            refine hG _ _ _ _ _ _ ?_
            (conv => whnf)
            repeat' (first
              | ((with_reducible refine @And.intro (vp_in _ _) _ ?_ ?_); (· (first | with_reducible assumption | ((with_reducible refine t_vin ?_); decide) | ((with_reducible refine vp_in_nI ?_ ?_) <;> first | omega | decide) | (simp (disch := omega) only [xl_n, xl_m, nI_dec, nI_sb, nI_add, pk_mul]; (with_reducible refine vp_in_nI ?_ ?_) <;> first | omega | decide))); (conv => whnf))
              | (refine And.intro (by first | with_reducible assumption | exact (show tL _ = _ from rfl) | decide) ?_; (conv => whnf))
              | ((with_reducible refine @And.intro (_ = _) _ ?_ ?_); (· rfl); (conv => whnf))
              | ((with_reducible refine @And.intro (@LE.le Nat _ _ _) _ ?_ ?_); (· (first | exact Nat.zero_le _ | exact Nat.le_of_ble_eq_true rfl | omega)); (conv => whnf))
              | ((with_reducible refine @And.intro (@LT.lt Nat _ _ _) _ ?_ ?_); (· omega); (conv => whnf))
              | ((with_reducible refine @And.intro (∃ _, _ = _) _ ?_ ?_); (· exact ⟨_, rfl⟩); (conv => whnf))
              | ((with_reducible refine @And.intro (_ ∨ _) _ ?_ ?_); (· (first | exact Or.inl rfl | exact Or.inr rfl | exact t_b01 _ | assumption)); (conv => whnf))
              | ((with_reducible refine @And.intro (¬ (_ = _)) _ ?_ ?_); (· first | assumption | (with_reducible assumption)); (conv => whnf))
              | (refine hX _ _ _ _ _ _ ?_; (conv => whnf); fail_if_success show False)
              | (rw [t_si]; (conv => whnf))
              | (refine ⟨_, rfl, ?_⟩; (conv => whnf))
              | (refine ⟨_, _, rfl, ?_⟩; (conv => whnf))
              | (refine ⟨_, _, _, rfl, ?_⟩; (conv => whnf))
              | (refine ⟨_, _, _, _, rfl, ?_⟩; (conv => whnf))
              | (refine ⟨_, _, (by with_reducible assumption), ?_⟩; (conv => whnf))
              | (refine ⟨_, (by first | with_reducible assumption | exact rfl), ?_⟩; (conv => whnf))
              | (refine And.intro (fun c => ?_) (fun c => ?_) <;> (first | (exact absurd c (by decide +kernel)) | (exact absurd c (by assumption)) | (exact False.elim (c (by assumption))) | (conv => whnf)))
              | fail)
            intro J0 hJ0 hp0
            (conv => whnf)
            have hp0 : t_ps J0 n (.inr (p_tks f n (nI 42) (k)).2) := hp0
            rw [p_tks_f a0] at hp0
            have eb0 : p_tkb (.inr (k)) (p_tks f n (Int32.ofInt 42)) = false := by
              show (p_tks f n (nI 42) (k)).1 = _
              rw [p_tks_f a0]
            have lf0 := hM.tr hJ0.l
            have lp0 := hlp.pf0 hJ0 hp0 (by first | omega | (simp only; omega))
            have tx0 := hJ0.tx htM
            repeat' (first
              | ((with_reducible refine @And.intro (vp_in _ _) _ ?_ ?_); (· (first | with_reducible assumption | ((with_reducible refine t_vin ?_); decide) | ((with_reducible refine vp_in_nI ?_ ?_) <;> first | omega | decide) | (simp (disch := omega) only [xl_n, xl_m, nI_dec, nI_sb, nI_add, pk_mul]; (with_reducible refine vp_in_nI ?_ ?_) <;> first | omega | decide))); (conv => whnf))
              | (refine And.intro (by first | with_reducible assumption | exact (show tL _ = _ from rfl) | decide) ?_; (conv => whnf))
              | ((with_reducible refine @And.intro (_ = _) _ ?_ ?_); (· rfl); (conv => whnf))
              | ((with_reducible refine @And.intro (@LE.le Nat _ _ _) _ ?_ ?_); (· (first | exact Nat.zero_le _ | exact Nat.le_of_ble_eq_true rfl | omega)); (conv => whnf))
              | ((with_reducible refine @And.intro (@LT.lt Nat _ _ _) _ ?_ ?_); (· omega); (conv => whnf))
              | ((with_reducible refine @And.intro (∃ _, _ = _) _ ?_ ?_); (· exact ⟨_, rfl⟩); (conv => whnf))
              | ((with_reducible refine @And.intro (_ ∨ _) _ ?_ ?_); (· (first | exact Or.inl rfl | exact Or.inr rfl | exact t_b01 _ | assumption)); (conv => whnf))
              | ((with_reducible refine @And.intro (¬ (_ = _)) _ ?_ ?_); (· first | assumption | (with_reducible assumption)); (conv => whnf))
              | (refine hX _ _ _ _ _ _ ?_; (conv => whnf); fail_if_success show False)
              | (rw [t_si]; (conv => whnf))
              | (refine ⟨_, rfl, ?_⟩; (conv => whnf))
              | (refine ⟨_, _, rfl, ?_⟩; (conv => whnf))
              | (refine ⟨_, _, _, rfl, ?_⟩; (conv => whnf))
              | (refine ⟨_, _, _, _, rfl, ?_⟩; (conv => whnf))
              | (rw [eb0]; (conv => whnf))
              | (refine ⟨_, _, (by with_reducible assumption), ?_⟩; (conv => whnf))
              | (refine ⟨_, (by first | with_reducible assumption | exact rfl), ?_⟩; (conv => whnf))
              | (refine And.intro (fun c => ?_) (fun c => ?_) <;> (first | (exact absurd c (by decide +kernel)) | (exact absurd c (by assumption)) | (exact False.elim (c (by assumption))) | (conv => whnf)))
              | fail)
            intro J1 hJ1 hp1
            (conv => whnf)
            have hp1 : t_ps J1 n (.inr (p_tks f n (nI 47) (p_bl f n k)).2) := hp1
            rw [p_tks_f (by rw [hbb]; exact a1), hbb] at hp1
            have eb1 : p_tkb (.inr (p_bl f n k)) (p_tks f n (Int32.ofInt 47)) = false := by
              show (p_tks f n (nI 47) (p_bl f n k)).1 = _
              rw [p_tks_f (by rw [hbb]; exact a1)]
            have lf1 := lf0.tr hJ1.l
            have lp1 := lp0.pf0 hJ1 hp1 (by first | omega | (simp only; omega))
            have tx1 := hJ1.tx tx0
            repeat' (first
              | ((with_reducible refine @And.intro (vp_in _ _) _ ?_ ?_); (· (first | with_reducible assumption | ((with_reducible refine t_vin ?_); decide) | ((with_reducible refine vp_in_nI ?_ ?_) <;> first | omega | decide) | (simp (disch := omega) only [xl_n, xl_m, nI_dec, nI_sb, nI_add, pk_mul]; (with_reducible refine vp_in_nI ?_ ?_) <;> first | omega | decide))); (conv => whnf))
              | (refine And.intro (by first | with_reducible assumption | exact (show tL _ = _ from rfl) | decide) ?_; (conv => whnf))
              | ((with_reducible refine @And.intro (_ = _) _ ?_ ?_); (· rfl); (conv => whnf))
              | ((with_reducible refine @And.intro (@LE.le Nat _ _ _) _ ?_ ?_); (· (first | exact Nat.zero_le _ | exact Nat.le_of_ble_eq_true rfl | omega)); (conv => whnf))
              | ((with_reducible refine @And.intro (@LT.lt Nat _ _ _) _ ?_ ?_); (· omega); (conv => whnf))
              | ((with_reducible refine @And.intro (∃ _, _ = _) _ ?_ ?_); (· exact ⟨_, rfl⟩); (conv => whnf))
              | ((with_reducible refine @And.intro (_ ∨ _) _ ?_ ?_); (· (first | exact Or.inl rfl | exact Or.inr rfl | exact t_b01 _ | assumption)); (conv => whnf))
              | ((with_reducible refine @And.intro (¬ (_ = _)) _ ?_ ?_); (· first | assumption | (with_reducible assumption)); (conv => whnf))
              | (refine hX _ _ _ _ _ _ ?_; (conv => whnf); fail_if_success show False)
              | (rw [t_si]; (conv => whnf))
              | (refine ⟨_, rfl, ?_⟩; (conv => whnf))
              | (refine ⟨_, _, rfl, ?_⟩; (conv => whnf))
              | (refine ⟨_, _, _, rfl, ?_⟩; (conv => whnf))
              | (refine ⟨_, _, _, _, rfl, ?_⟩; (conv => whnf))
              | (rw [eb1]; (conv => whnf))
              | (refine ⟨_, _, (by with_reducible assumption), ?_⟩; (conv => whnf))
              | (refine ⟨_, (by first | with_reducible assumption | exact rfl), ?_⟩; (conv => whnf))
              | (refine And.intro (fun c => ?_) (fun c => ?_) <;> (first | (exact absurd c (by decide +kernel)) | (exact absurd c (by assumption)) | (exact False.elim (c (by assumption))) | (conv => whnf)))
              | fail)
            intro J2 hJ2 hp2
            (conv => whnf)
            have hp2 : t_ps J2 n (.inr (p_tks f n (nI 37) (p_bl f n k)).2) := hp2
            rw [p_tks_f (by rw [hbb]; exact a2), hbb] at hp2
            have eb2 : p_tkb (.inr (p_bl f n k)) (p_tks f n (Int32.ofInt 37)) = false := by
              show (p_tks f n (nI 37) (p_bl f n k)).1 = _
              rw [p_tks_f (by rw [hbb]; exact a2)]
            have lf2 := lf1.tr hJ2.l
            have lp2 := lp1.pf0 hJ2 hp2 (by first | omega | (simp only; omega))
            have tx2 := hJ2.tx tx1
            have fin : Q none (tW J2) := by
              have e : l_op2 (p_at f n (p_bl f n k)) = nM := by unfold l_op2; rw [if_neg a0]; rw [if_neg a1]; rw [if_neg a2]
              rw [if_pos e] at hQ
              exact hQ J2 lf2 lp2
            clear nxt
            repeat' (first
              | ((with_reducible refine @And.intro (vp_in _ _) _ ?_ ?_); (· (first | with_reducible assumption | ((with_reducible refine t_vin ?_); decide) | ((with_reducible refine vp_in_nI ?_ ?_) <;> first | omega | decide) | (simp (disch := omega) only [xl_n, xl_m, nI_dec, nI_sb, nI_add, pk_mul]; (with_reducible refine vp_in_nI ?_ ?_) <;> first | omega | decide))); (conv => whnf))
              | (refine And.intro (by first | with_reducible assumption | exact (show tL _ = _ from rfl) | decide) ?_; (conv => whnf))
              | ((with_reducible refine @And.intro (_ = _) _ ?_ ?_); (· rfl); (conv => whnf))
              | ((with_reducible refine @And.intro (@LE.le Nat _ _ _) _ ?_ ?_); (· (first | exact Nat.zero_le _ | exact Nat.le_of_ble_eq_true rfl | omega)); (conv => whnf))
              | ((with_reducible refine @And.intro (@LT.lt Nat _ _ _) _ ?_ ?_); (· omega); (conv => whnf))
              | ((with_reducible refine @And.intro (∃ _, _ = _) _ ?_ ?_); (· exact ⟨_, rfl⟩); (conv => whnf))
              | ((with_reducible refine @And.intro (_ ∨ _) _ ?_ ?_); (· (first | exact Or.inl rfl | exact Or.inr rfl | exact t_b01 _ | assumption)); (conv => whnf))
              | ((with_reducible refine @And.intro (¬ (_ = _)) _ ?_ ?_); (· first | assumption | (with_reducible assumption)); (conv => whnf))
              | (refine hX _ _ _ _ _ _ ?_; (conv => whnf); fail_if_success show False)
              | (rw [t_si]; (conv => whnf))
              | (refine ⟨_, rfl, ?_⟩; (conv => whnf))
              | (refine ⟨_, _, rfl, ?_⟩; (conv => whnf))
              | (refine ⟨_, _, _, rfl, ?_⟩; (conv => whnf))
              | (refine ⟨_, _, _, _, rfl, ?_⟩; (conv => whnf))
              | (rw [eb2]; (conv => whnf))
              | (refine ⟨_, _, (by with_reducible assumption), ?_⟩; (conv => whnf))
              | (refine ⟨_, (by first | with_reducible assumption | exact rfl), ?_⟩; (conv => whnf))
              | (refine And.intro (fun c => ?_) (fun c => ?_) <;> (first | (exact absurd c (by decide +kernel)) | (exact absurd c (by assumption)) | (exact False.elim (c (by assumption))) | (conv => whnf)))
              | fail)
            exact fin
  refine ⟨rfl, ?_⟩
  repeat' (first
    | (refine ⟨_,_,_,_,(by assumption),?_⟩; (conv => whnf))
    | ((with_reducible refine @And.intro (vp_in _ _) _ ?_ ?_); (· (first | with_reducible assumption | ((with_reducible refine t_vin ?_); decide) | ((with_reducible refine vp_in_nI ?_ ?_) <;> first | omega | decide) | (simp (disch := omega) only [xl_n, xl_m, nI_dec, nI_sb, nI_add, pk_mul]; (with_reducible refine vp_in_nI ?_ ?_) <;> first | omega | decide))); (conv => whnf))
    | (refine And.intro (by first | with_reducible assumption | exact (show tL _ = _ from rfl) | decide) ?_; (conv => whnf))
    | ((with_reducible refine @And.intro (_ = _) _ ?_ ?_); (· rfl); (conv => whnf))
    | ((with_reducible refine @And.intro (@LE.le Nat _ _ _) _ ?_ ?_); (· (first | exact Nat.zero_le _ | exact Nat.le_of_ble_eq_true rfl | omega)); (conv => whnf))
    | ((with_reducible refine @And.intro (@LT.lt Nat _ _ _) _ ?_ ?_); (· omega); (conv => whnf))
    | ((with_reducible refine @And.intro (∃ _, _ = _) _ ?_ ?_); (· exact ⟨_, rfl⟩); (conv => whnf))
    | ((with_reducible refine @And.intro (_ ∨ _) _ ?_ ?_); (· (first | exact Or.inl rfl | exact Or.inr rfl | exact t_b01 _ | assumption)); (conv => whnf))
    | ((with_reducible refine @And.intro (¬ (_ = _)) _ ?_ ?_); (· first | assumption | (with_reducible assumption)); (conv => whnf))
    | (refine hX _ _ _ _ _ _ ?_; (conv => whnf); fail_if_success show False)
    | (rw [t_si]; (conv => whnf))
    | (refine ⟨_, rfl, ?_⟩; (conv => whnf))
    | (refine ⟨_, _, rfl, ?_⟩; (conv => whnf))
    | (refine ⟨_, _, _, rfl, ?_⟩; (conv => whnf))
    | (refine ⟨_, _, _, _, rfl, ?_⟩; (conv => whnf))
    | (refine And.intro (fun c => ?_) (fun c => ?_) <;> (first | (exact absurd c (by decide +kernel)) | (conv => whnf)))
    | fail)
  intro J hJ hlp
  (conv => whnf)
  cases hq : p_go p (p_unit f n (p_sm f n d)) with
  | inl e =>
    rw [hq] at hlp hQ
    have fin := loopE J e none hJ hlp hQ
    clear loop loopE
    repeat' (first
      | ((with_reducible refine @And.intro (vp_in _ _) _ ?_ ?_); (· (first | with_reducible assumption | ((with_reducible refine t_vin ?_); decide) | ((with_reducible refine vp_in_nI ?_ ?_) <;> first | omega | decide) | (simp (disch := omega) only [xl_n, xl_m, nI_dec, nI_sb, nI_add, pk_mul]; (with_reducible refine vp_in_nI ?_ ?_) <;> first | omega | decide))); (conv => whnf))
      | (refine And.intro (by first | with_reducible assumption | exact (show tL _ = _ from rfl) | decide) ?_; (conv => whnf))
      | ((with_reducible refine @And.intro (_ = _) _ ?_ ?_); (· rfl); (conv => whnf))
      | ((with_reducible refine @And.intro (@LE.le Nat _ _ _) _ ?_ ?_); (· (first | exact Nat.zero_le _ | exact Nat.le_of_ble_eq_true rfl | omega)); (conv => whnf))
      | ((with_reducible refine @And.intro (@LT.lt Nat _ _ _) _ ?_ ?_); (· omega); (conv => whnf))
      | ((with_reducible refine @And.intro (∃ _, _ = _) _ ?_ ?_); (· exact ⟨_, rfl⟩); (conv => whnf))
      | ((with_reducible refine @And.intro (_ ∨ _) _ ?_ ?_); (· (first | exact Or.inl rfl | exact Or.inr rfl | exact t_b01 _ | assumption)); (conv => whnf))
      | ((with_reducible refine @And.intro (¬ (_ = _)) _ ?_ ?_); (· first | assumption | (with_reducible assumption)); (conv => whnf))
      | (refine hX _ _ _ _ _ _ ?_; (conv => whnf); fail_if_success show False)
      | (rw [t_si]; (conv => whnf))
      | (refine ⟨_, rfl, ?_⟩; (conv => whnf))
      | (refine ⟨_, _, rfl, ?_⟩; (conv => whnf))
      | (refine ⟨_, _, _, rfl, ?_⟩; (conv => whnf))
      | (refine ⟨_, _, _, _, rfl, ?_⟩; (conv => whnf))
      | (refine And.intro (fun c => ?_) (fun c => ?_) <;> (first | (exact absurd c (by decide +kernel)) | (conv => whnf)))
      | fail)
    exact fin
  | inr e =>
    obtain ⟨L, k⟩ := e
    rw [hq] at hlp hQ
    have fin := loop (n + 1) L k J none (by omega) hJ hlp hQ
    clear loop loopE
    repeat' (first
      | ((with_reducible refine @And.intro (vp_in _ _) _ ?_ ?_); (· (first | with_reducible assumption | ((with_reducible refine t_vin ?_); decide) | ((with_reducible refine vp_in_nI ?_ ?_) <;> first | omega | decide) | (simp (disch := omega) only [xl_n, xl_m, nI_dec, nI_sb, nI_add, pk_mul]; (with_reducible refine vp_in_nI ?_ ?_) <;> first | omega | decide))); (conv => whnf))
      | (refine And.intro (by first | with_reducible assumption | exact (show tL _ = _ from rfl) | decide) ?_; (conv => whnf))
      | ((with_reducible refine @And.intro (_ = _) _ ?_ ?_); (· rfl); (conv => whnf))
      | ((with_reducible refine @And.intro (@LE.le Nat _ _ _) _ ?_ ?_); (· (first | exact Nat.zero_le _ | exact Nat.le_of_ble_eq_true rfl | omega)); (conv => whnf))
      | ((with_reducible refine @And.intro (@LT.lt Nat _ _ _) _ ?_ ?_); (· omega); (conv => whnf))
      | ((with_reducible refine @And.intro (∃ _, _ = _) _ ?_ ?_); (· exact ⟨_, rfl⟩); (conv => whnf))
      | ((with_reducible refine @And.intro (_ ∨ _) _ ?_ ?_); (· (first | exact Or.inl rfl | exact Or.inr rfl | exact t_b01 _ | assumption)); (conv => whnf))
      | ((with_reducible refine @And.intro (¬ (_ = _)) _ ?_ ?_); (· first | assumption | (with_reducible assumption)); (conv => whnf))
      | (refine hX _ _ _ _ _ _ ?_; (conv => whnf); fail_if_success show False)
      | (rw [t_si]; (conv => whnf))
      | (refine ⟨_, rfl, ?_⟩; (conv => whnf))
      | (refine ⟨_, _, rfl, ?_⟩; (conv => whnf))
      | (refine ⟨_, _, _, rfl, ?_⟩; (conv => whnf))
      | (refine ⟨_, _, _, _, rfl, ?_⟩; (conv => whnf))
      | (refine And.intro (fun c => ?_) (fun c => ?_) <;> (first | (exact absurd c (by decide +kernel)) | (conv => whnf)))
      | fail)
    exact fin
theorem c1_X11_product {Iv : xI} (hI : xm_good Iv) (d : Nat) (ih : xm_Ct Iv yX11_one (ws_ yX11_one cX11_one 3 none) (3 * d + 11) 0 0 (S_X11_one (d + 1))) : xm_Ct Iv yX11_product (ws_ yX11_product cX11_product 2 none) (3 * d + 12) 0 0 (S_X11_product (d + 1)) := xm_enter (rt := 2) (init := false) (by decide +kernel) rfl (fun h => by cases h) (Or.inr (Or.inr (Or.inl ⟨rfl, rfl⟩))) (oX11_product hI d ih) (body_X11_product d)
abbrev bX11_sum_0 : List xE := [(.aload_n 0, 1, 0, 0, 0), (.invokevirtual 288, 4, 0, 0, 9)]
abbrev bX11_sum_4 : List xE := [(.aload_n 0, 5, 0, 0, 0), (.getfield 150, 8, 8, 5, 0), (.ifCond .ne 50, 11, 0, 58, 0), (.aload_n 0, 12, 0, 0, 0), (.bipush 43, 14, 0, 0, 0), (.invokevirtual 291, 17, 0, 1, 9), (.ifCond .eq 7, 20, 0, 24, 0), (.iconst 2, 21, 0, 0, 0), (.goto 17, 24, 0, 38, 0)]
abbrev bX11_sum_24 : List xE := [(.aload_n 0, 25, 0, 0, 0), (.bipush 45, 27, 0, 0, 0), (.invokevirtual 291, 30, 0, 1, 9), (.ifCond .eq 7, 33, 0, 37, 0), (.iconst 3, 34, 0, 0, 0), (.goto 4, 37, 0, 38, 0)]
abbrev bX11_sum_37 : List xE := [(.iconst (-1), 38, 0, 0, 0)]
abbrev bX11_sum_38 : List xE := [(.istore_n 1, 39, 0, 0, 0), (.iload_n 1, 40, 0, 0, 0), (.iconst (-1), 41, 0, 0, 0), (.if_icmp .ne 4, 44, 0, 45, 0), (.return_, 45, 0, 0, 0)]
abbrev bX11_sum_45 : List xE := [(.aload_n 0, 46, 0, 0, 0), (.invokevirtual 288, 49, 0, 0, 9), (.aload_n 0, 50, 0, 0, 0), (.iload_n 1, 51, 0, 0, 0), (.iconst 0, 52, 0, 0, 0), (.invokevirtual 294, 55, 0, 2, 9), (.goto (-51), 58, 0, 4, 0)]
abbrev bX11_sum_58 : List xE := [(.return_, 59, 0, 0, 0)]
abbrev kX11_sum : List (Nat × List xE) := [(0, bX11_sum_0), (4, bX11_sum_4), (24, bX11_sum_24), (37, bX11_sum_37), (38, bX11_sum_38), (45, bX11_sum_45), (58, bX11_sum_58)]
abbrev lX11_sum (d : Nat) : List (Nat × Nat × Nat × xS) := [(1, 0, 0, (xm_this 8 (S_X11_product (d + 1)))), (2, 0, 0, xm_this 8 S_X11_takesSign), (3, 0, 0, xm_this 8 S_X11_notes)]
theorem oX11_sum_0 {Iv : xI} (hI : xm_good Iv) (d : Nat)  (ih_X11_product : xm_Ct Iv yX11_product (ws_ yX11_product cX11_product 2 none) (3 * d + 12) 0 0 (S_X11_product (d + 1))): xm_okb Iv RX11 cX11_sum false (3 * d + 13) (lX11_sum d) bX11_sum_0 0 := xo_0 dX11_sum_0 rfl trivial (xo_c rfl (xm_callV 8 hI ih_X11_product dX11_sum_1 (Or.inl q2248) q2250 qs75 q145 q2251 rfl rfl (by decide +kernel) (by omega) (by decide)) (xo_n))
theorem oX11_sum_4 {Iv : xI} (hI : xm_good Iv) (d : Nat)  (ih_X11_product : xm_Ct Iv yX11_product (ws_ yX11_product cX11_product 2 none) (3 * d + 12) 0 0 (S_X11_product (d + 1))): xm_okb Iv RX11 cX11_sum false (3 * d + 13) (lX11_sum d) bX11_sum_4 4 := xo_0 dX11_sum_4 rfl trivial (xo_0 dX11_sum_5 rfl (xm_fg_of (Or.inl q1960) (by decide) rfl (by decide) rfl rfl (Or.inl rfl) rfl) (xo_0 dX11_sum_8 rfl rfl (xo_0 dX11_sum_11 rfl trivial (xo_0 dX11_sum_12 rfl (xo_bipush (by decide +kernel)) (xo_c rfl (cv_X11_takesSign hI dX11_sum_14 (Or.inl q2272) (by omega)) (xo_0 dX11_sum_17 rfl rfl (xo_0 dX11_sum_20 rfl trivial (xo_0 dX11_sum_21 rfl rfl (xo_n)))))))))
theorem oX11_sum_24 {Iv : xI} (hI : xm_good Iv) (d : Nat)  (ih_X11_product : xm_Ct Iv yX11_product (ws_ yX11_product cX11_product 2 none) (3 * d + 12) 0 0 (S_X11_product (d + 1))): xm_okb Iv RX11 cX11_sum false (3 * d + 13) (lX11_sum d) bX11_sum_24 24 := xo_0 dX11_sum_24 rfl trivial (xo_0 dX11_sum_25 rfl (xo_bipush (by decide +kernel)) (xo_c rfl (cv_X11_takesSign hI dX11_sum_27 (Or.inl q2272) (by omega)) (xo_0 dX11_sum_30 rfl rfl (xo_0 dX11_sum_33 rfl trivial (xo_0 dX11_sum_34 rfl rfl (xo_n))))))
theorem oX11_sum_37 {Iv : xI} (hI : xm_good Iv) (d : Nat)  (ih_X11_product : xm_Ct Iv yX11_product (ws_ yX11_product cX11_product 2 none) (3 * d + 12) 0 0 (S_X11_product (d + 1))): xm_okb Iv RX11 cX11_sum false (3 * d + 13) (lX11_sum d) bX11_sum_37 37 := xo_0 dX11_sum_37 rfl trivial (xo_n)
theorem oX11_sum_38 {Iv : xI} (hI : xm_good Iv) (d : Nat)  (ih_X11_product : xm_Ct Iv yX11_product (ws_ yX11_product cX11_product 2 none) (3 * d + 12) 0 0 (S_X11_product (d + 1))): xm_okb Iv RX11 cX11_sum false (3 * d + 13) (lX11_sum d) bX11_sum_38 38 := xo_0 dX11_sum_38 rfl trivial (xo_0 dX11_sum_39 rfl trivial (xo_0 dX11_sum_40 rfl trivial (xo_0 dX11_sum_41 rfl rfl (xo_0 dX11_sum_44 rfl trivial (xo_n)))))
theorem oX11_sum_45 {Iv : xI} (hI : xm_good Iv) (d : Nat)  (ih_X11_product : xm_Ct Iv yX11_product (ws_ yX11_product cX11_product 2 none) (3 * d + 12) 0 0 (S_X11_product (d + 1))): xm_okb Iv RX11 cX11_sum false (3 * d + 13) (lX11_sum d) bX11_sum_45 45 := xo_0 dX11_sum_45 rfl trivial (xo_c rfl (xm_callV 8 hI ih_X11_product dX11_sum_46 (Or.inl q2248) q2250 qs75 q145 q2251 rfl rfl (by decide +kernel) (by omega) (by decide)) (xo_0 dX11_sum_49 rfl trivial (xo_0 dX11_sum_50 rfl trivial (xo_0 dX11_sum_51 rfl trivial (xo_c rfl (cv_X11_notes hI dX11_sum_52 (Or.inl q2260) (by omega)) (xo_0 dX11_sum_55 rfl rfl (xo_n)))))))
theorem oX11_sum_58 {Iv : xI} (hI : xm_good Iv) (d : Nat)  (ih_X11_product : xm_Ct Iv yX11_product (ws_ yX11_product cX11_product 2 none) (3 * d + 12) 0 0 (S_X11_product (d + 1))): xm_okb Iv RX11 cX11_sum false (3 * d + 13) (lX11_sum d) bX11_sum_58 58 := xo_0 dX11_sum_58 rfl trivial (xo_n)
theorem oX11_sum {Iv : xI} (hI : xm_good Iv) (d : Nat)  (ih_X11_product : xm_Ct Iv yX11_product (ws_ yX11_product cX11_product 2 none) (3 * d + 12) 0 0 (S_X11_product (d + 1))): ∀ q ∈ kX11_sum, xm_okb Iv RX11 cX11_sum false (3 * d + 13) (lX11_sum d) q.2 q.1 := by
  intro q hq
  simp only [List.mem_cons, List.not_mem_nil, or_false] at hq
  rcases hq with rfl | rfl | rfl | rfl | rfl | rfl | rfl
  · exact oX11_sum_0 hI d  ih_X11_product
  · exact oX11_sum_4 hI d  ih_X11_product
  · exact oX11_sum_24 hI d  ih_X11_product
  · exact oX11_sum_37 hI d  ih_X11_product
  · exact oX11_sum_38 hI d  ih_X11_product
  · exact oX11_sum_45 hI d  ih_X11_product
  · exact oX11_sum_58 hI d  ih_X11_product
theorem body_X11_sum (d : Nat) : xm_Body 2 2 0 0 [] (lX11_sum d) kX11_sum (S_X11_sum (d + 1)) := by
  intro X avs w Q QX hX0 hS
  have hG := xm_go [] hX0
  have hX := xm_go [4, 45] hX0
  clear hX0
  obtain ⟨I, rfl, rfl, f, n, c0, p, hin, hQ⟩ := hS
  obtain ⟨ht, hn150, hd6, hp, hc⟩ := id hin
  have hn := ht.2.1
  have hits := (l_it_sum (f := f) (n := n) d).2
  have hQ : ∀ J, t_lf I J → t_lp I J n d c0 (p_bd (p_go p (p_prodW f n (p_sm f n d))) fun L k => p_chF f n l_op1 (p_prodW f n (p_sm f n d)) (n + 1) L k) → Q none (tW J) := by
    intro J h1 h2
    refine hQ J h1 ?_
    rw [p_sum_eq]
    show t_lp I J n d c0 (p_go p (p_ch f n l_op1 (p_prodW f n (p_sm f n d))))
    rw [p_ch_go]
    exact h2
  have loopE : ∀ M e o, t_lf I M → t_lp I M n d c0 (.inl e) → (∀ J, t_lf I J → t_lp I J n d c0 (.inl e) → Q none (tW J)) → X 4 [some (.ref 0), o] [] (tW M) 0 0 := by
    clear hQ
    intro M e o hM hlp hQ
    have h5 : ¬ M 0 5 = 0 := by rw [hlp.1, ← nI_0]; exact hlp.2.1
    have fin := hQ M hM hlp
    refine hG _ _ _ _ _ _ ?_
    (conv => whnf)
    repeat' (first
      | ((with_reducible refine @And.intro (vp_in _ _) _ ?_ ?_); (· (first | with_reducible assumption | ((with_reducible refine t_vin ?_); decide) | ((with_reducible refine vp_in_nI ?_ ?_) <;> first | omega | decide) | (simp (disch := omega) only [xl_n, xl_m, nI_dec, nI_sb, nI_add, pk_mul]; (with_reducible refine vp_in_nI ?_ ?_) <;> first | omega | decide))); (conv => whnf))
      | (refine And.intro (by first | with_reducible assumption | exact (show tL _ = _ from rfl) | decide) ?_; (conv => whnf))
      | ((with_reducible refine @And.intro (_ = _) _ ?_ ?_); (· rfl); (conv => whnf))
      | ((with_reducible refine @And.intro (@LE.le Nat _ _ _) _ ?_ ?_); (· (first | exact Nat.zero_le _ | exact Nat.le_of_ble_eq_true rfl | omega)); (conv => whnf))
      | ((with_reducible refine @And.intro (@LT.lt Nat _ _ _) _ ?_ ?_); (· omega); (conv => whnf))
      | ((with_reducible refine @And.intro (∃ _, _ = _) _ ?_ ?_); (· exact ⟨_, rfl⟩); (conv => whnf))
      | ((with_reducible refine @And.intro (_ ∨ _) _ ?_ ?_); (· (first | exact Or.inl rfl | exact Or.inr rfl | exact t_b01 _ | assumption)); (conv => whnf))
      | ((with_reducible refine @And.intro (¬ (_ = _)) _ ?_ ?_); (· first | assumption | (with_reducible assumption)); (conv => whnf))
      | (refine hX _ _ _ _ _ _ ?_; (conv => whnf); fail_if_success show False)
      | (rw [t_si]; (conv => whnf))
      | (refine ⟨_, rfl, ?_⟩; (conv => whnf))
      | (refine ⟨_, _, rfl, ?_⟩; (conv => whnf))
      | (refine ⟨_, _, _, rfl, ?_⟩; (conv => whnf))
      | (refine ⟨_, _, _, _, rfl, ?_⟩; (conv => whnf))
      | (refine And.intro (fun c => ?_) (fun c => ?_) <;> (first | (exact absurd c (by decide +kernel)) | (exact absurd c (by assumption)) | (exact False.elim (c (by assumption))) | (conv => whnf)))
      | fail)
    exact fin
  have loop : ∀ u, ∀ L k M o, n < k + u → t_lf I M → t_lp I M n d c0 (.inr (L, k)) → (∀ J, t_lf I J → t_lp I J n d c0 (p_chF f n l_op1 (p_prodW f n (p_sm f n d)) u L k) → Q none (tW J)) → X 4 [some (.ref 0), o] [] (tW M) 0 0 := by
    clear hQ
    intro u
    induction u with
    | zero =>
      intro L k M o hu hM hlp
      have := hlp.1.2.2
      omega
    | succ u ih =>
      intro L k M o hu hM hlp hQ
      have hck := hlp.2.2.2.1
      obtain ⟨h5n, h4, hk⟩ := t_ps_n hlp.1
      have h5 : M 0 5 = 0 := h5n.trans nI_0
      obtain ⟨hb1, hb2⟩ := p_bl_in (f := f) hk
      have hbb := p_bl_bl (f := f) hk
      unfold p_chF at hQ
      have htM := hM.tx ht
      have psM := hlp.1
      have nxt : ∀ z N, l_op1 (p_at f n (p_bl f n k)) = nI z → z ≤ 8 → p_bl f n k < n → t_lf I N → t_lp I N n d c0 (.inr (L, p_bl f n k + 1)) → X 45 [some (.ref 0), some (.int (nI z))] [] (tW N) 0 0 := by
        intro z N hz hz8 hbn hN hlp
        rw [hz, if_neg (nM_ne (by omega))] at hQ
        have in1 := hlp.lin (hN.tx ht) hn150 hd6
        refine hG _ _ _ _ _ _ ?_
        (conv => whnf)
        repeat' (first
          | (refine ⟨_,_,_,_,(by assumption),?_⟩; (conv => whnf))
          | ((with_reducible refine @And.intro (vp_in _ _) _ ?_ ?_); (· (first | with_reducible assumption | ((with_reducible refine t_vin ?_); decide) | ((with_reducible refine vp_in_nI ?_ ?_) <;> first | omega | decide) | (simp (disch := omega) only [xl_n, xl_m, nI_dec, nI_sb, nI_add, pk_mul]; (with_reducible refine vp_in_nI ?_ ?_) <;> first | omega | decide))); (conv => whnf))
          | (refine And.intro (by first | with_reducible assumption | exact (show tL _ = _ from rfl) | decide) ?_; (conv => whnf))
          | ((with_reducible refine @And.intro (_ = _) _ ?_ ?_); (· rfl); (conv => whnf))
          | ((with_reducible refine @And.intro (@LE.le Nat _ _ _) _ ?_ ?_); (· (first | exact Nat.zero_le _ | exact Nat.le_of_ble_eq_true rfl | omega)); (conv => whnf))
          | ((with_reducible refine @And.intro (@LT.lt Nat _ _ _) _ ?_ ?_); (· omega); (conv => whnf))
          | ((with_reducible refine @And.intro (∃ _, _ = _) _ ?_ ?_); (· exact ⟨_, rfl⟩); (conv => whnf))
          | ((with_reducible refine @And.intro (_ ∨ _) _ ?_ ?_); (· (first | exact Or.inl rfl | exact Or.inr rfl | exact t_b01 _ | assumption)); (conv => whnf))
          | ((with_reducible refine @And.intro (¬ (_ = _)) _ ?_ ?_); (· first | assumption | (with_reducible assumption)); (conv => whnf))
          | (refine hX _ _ _ _ _ _ ?_; (conv => whnf); fail_if_success show False)
          | (rw [t_si]; (conv => whnf))
          | (refine ⟨_, rfl, ?_⟩; (conv => whnf))
          | (refine ⟨_, _, rfl, ?_⟩; (conv => whnf))
          | (refine ⟨_, _, _, rfl, ?_⟩; (conv => whnf))
          | (refine ⟨_, _, _, _, rfl, ?_⟩; (conv => whnf))
          | (refine And.intro (fun c => ?_) (fun c => ?_) <;> (first | (exact absurd c (by decide +kernel)) | (conv => whnf)))
          | fail)
        intro J2 hJ2 hp2
        (conv => whnf)
        have lp2 : t_lp I J2 n d c0 (p_bd ((p_prodW f n (p_sm f n d)) (p_bl f n k + 1)) fun B k => .inr (L ++ B, k)) := hlp.more hp2
        have lf2 := hN.tr hJ2
        clear hp2 in1
        cases hq : (p_prodW f n (p_sm f n d)) (p_bl f n k + 1) with
        | inl e =>
          rw [hq] at lp2 hQ
          have lp2 : t_lp I J2 n d c0 (.inl e) := lp2
          have h5 : ¬ J2 0 5 = nI 0 := by rw [lp2.1]; exact lp2.2.1
          have fin := loopE J2 e (some (.int (nI z))) lf2 lp2 hQ
          clear loopE ih
          repeat' (first
            | ((with_reducible refine @And.intro (vp_in _ _) _ ?_ ?_); (· (first | with_reducible assumption | ((with_reducible refine t_vin ?_); decide) | ((with_reducible refine vp_in_nI ?_ ?_) <;> first | omega | decide) | (simp (disch := omega) only [xl_n, xl_m, nI_dec, nI_sb, nI_add, pk_mul]; (with_reducible refine vp_in_nI ?_ ?_) <;> first | omega | decide))); (conv => whnf))
            | (refine And.intro (by first | with_reducible assumption | exact (show tL _ = _ from rfl) | decide) ?_; (conv => whnf))
            | ((with_reducible refine @And.intro (_ = _) _ ?_ ?_); (· rfl); (conv => whnf))
            | ((with_reducible refine @And.intro (@LE.le Nat _ _ _) _ ?_ ?_); (· (first | exact Nat.zero_le _ | exact Nat.le_of_ble_eq_true rfl | omega)); (conv => whnf))
            | ((with_reducible refine @And.intro (@LT.lt Nat _ _ _) _ ?_ ?_); (· omega); (conv => whnf))
            | ((with_reducible refine @And.intro (∃ _, _ = _) _ ?_ ?_); (· exact ⟨_, rfl⟩); (conv => whnf))
            | ((with_reducible refine @And.intro (_ ∨ _) _ ?_ ?_); (· (first | exact Or.inl rfl | exact Or.inr rfl | exact t_b01 _ | assumption)); (conv => whnf))
            | ((with_reducible refine @And.intro (¬ (_ = _)) _ ?_ ?_); (· first | assumption | (with_reducible assumption)); (conv => whnf))
            | (refine hX _ _ _ _ _ _ ?_; (conv => whnf); fail_if_success show False)
            | (rw [t_si]; (conv => whnf))
            | (refine ⟨_, rfl, ?_⟩; (conv => whnf))
            | (refine ⟨_, _, rfl, ?_⟩; (conv => whnf))
            | (refine ⟨_, _, _, rfl, ?_⟩; (conv => whnf))
            | (refine ⟨_, _, _, _, rfl, ?_⟩; (conv => whnf))
            | (refine And.intro (fun c => ?_) (fun c => ?_) <;> (first | (exact absurd c (by decide +kernel)) | (exact absurd c (by assumption)) | (exact False.elim (c (by assumption))) | (conv => whnf)))
            | fail)
          exact fin
        | inr e =>
          obtain ⟨B, k2⟩ := e
          rw [hq] at lp2 hQ
          have lp2 : t_lp I J2 n d c0 (.inr (L ++ B, k2)) := lp2
          have hB := l_it_prod hits _ _ _ (by omega) hq
          have lp3 := lp2.note (z := nI z) (v := nI 0) (by rw [List.length_append]; omega)
          have hc160 : c0 + (L ++ B).length < 160 := by rw [List.length_append]; omega
          have lf3 : t_lf I (xm_u2 (xm_u2 (xm_u2 J2 (400 + (c0 + (L ++ B).length)) 0 (nI z)) (400 + (c0 + (L ++ B).length)) 1 (nI 0)) 0 28 (nI (c0 + (L ++ B).length + 1))) := ((lf2.tr (t_lf.u (by omega))).tr (t_lf.u (by omega))).tr (t_lf.u0 (by omega))
          have h5 := lp2.1.1
          have h28 := lp2.2.2.1
          have fin := ih _ _ _ (some (.int (nI z))) (by omega) lf3 lp3 hQ
          clear loopE ih
          repeat' (first
            | (refine ⟨_,(by assumption),(by assumption),?_⟩; (conv => whnf))
            | ((with_reducible refine @And.intro (vp_in _ _) _ ?_ ?_); (· (first | with_reducible assumption | ((with_reducible refine t_vin ?_); decide) | ((with_reducible refine vp_in_nI ?_ ?_) <;> first | omega | decide) | (simp (disch := omega) only [xl_n, xl_m, nI_dec, nI_sb, nI_add, pk_mul]; (with_reducible refine vp_in_nI ?_ ?_) <;> first | omega | decide))); (conv => whnf))
            | (refine And.intro (by first | with_reducible assumption | exact (show tL _ = _ from rfl) | decide) ?_; (conv => whnf))
            | ((with_reducible refine @And.intro (_ = _) _ ?_ ?_); (· rfl); (conv => whnf))
            | ((with_reducible refine @And.intro (@LE.le Nat _ _ _) _ ?_ ?_); (· (first | exact Nat.zero_le _ | exact Nat.le_of_ble_eq_true rfl | omega)); (conv => whnf))
            | ((with_reducible refine @And.intro (@LT.lt Nat _ _ _) _ ?_ ?_); (· omega); (conv => whnf))
            | ((with_reducible refine @And.intro (∃ _, _ = _) _ ?_ ?_); (· exact ⟨_, rfl⟩); (conv => whnf))
            | ((with_reducible refine @And.intro (_ ∨ _) _ ?_ ?_); (· (first | exact Or.inl rfl | exact Or.inr rfl | exact t_b01 _ | assumption)); (conv => whnf))
            | ((with_reducible refine @And.intro (¬ (_ = _)) _ ?_ ?_); (· first | assumption | (with_reducible assumption)); (conv => whnf))
            | (refine hX _ _ _ _ _ _ ?_; (conv => whnf); fail_if_success show False)
            | (rw [t_si]; (conv => whnf))
            | (refine ⟨_, rfl, ?_⟩; (conv => whnf))
            | (refine ⟨_, _, rfl, ?_⟩; (conv => whnf))
            | (refine ⟨_, _, _, rfl, ?_⟩; (conv => whnf))
            | (refine ⟨_, _, _, _, rfl, ?_⟩; (conv => whnf))
            | (refine And.intro (fun c => ?_) (fun c => ?_) <;> (first | (exact absurd c (by decide +kernel)) | (exact absurd c (by assumption)) | (exact False.elim (c (by assumption))) | (conv => whnf)))
            | fail)
          exact fin
      clear ih loopE
      by_cases a0 : p_at f n (p_bl f n k) = nI 43
      · have h43 : ¬ nI 43 = nM := by decide +kernel
        have h45 : ¬ nI 45 = nM := by decide +kernel
        refine hG _ _ _ _ _ _ ?_
        (conv => whnf)
        repeat' (first
          | ((with_reducible refine @And.intro (vp_in _ _) _ ?_ ?_); (· (first | with_reducible assumption | ((with_reducible refine t_vin ?_); decide) | ((with_reducible refine vp_in_nI ?_ ?_) <;> first | omega | decide) | (simp (disch := omega) only [xl_n, xl_m, nI_dec, nI_sb, nI_add, pk_mul]; (with_reducible refine vp_in_nI ?_ ?_) <;> first | omega | decide))); (conv => whnf))
          | (refine And.intro (by first | with_reducible assumption | exact (show tL _ = _ from rfl) | decide) ?_; (conv => whnf))
          | ((with_reducible refine @And.intro (_ = _) _ ?_ ?_); (· rfl); (conv => whnf))
          | ((with_reducible refine @And.intro (@LE.le Nat _ _ _) _ ?_ ?_); (· (first | exact Nat.zero_le _ | exact Nat.le_of_ble_eq_true rfl | omega)); (conv => whnf))
          | ((with_reducible refine @And.intro (@LT.lt Nat _ _ _) _ ?_ ?_); (· omega); (conv => whnf))
          | ((with_reducible refine @And.intro (∃ _, _ = _) _ ?_ ?_); (· exact ⟨_, rfl⟩); (conv => whnf))
          | ((with_reducible refine @And.intro (_ ∨ _) _ ?_ ?_); (· (first | exact Or.inl rfl | exact Or.inr rfl | exact t_b01 _ | assumption)); (conv => whnf))
          | ((with_reducible refine @And.intro (¬ (_ = _)) _ ?_ ?_); (· first | assumption | (with_reducible assumption)); (conv => whnf))
          | (refine hX _ _ _ _ _ _ ?_; (conv => whnf); fail_if_success show False)
          | (rw [t_si]; (conv => whnf))
          | (refine ⟨_, rfl, ?_⟩; (conv => whnf))
          | (refine ⟨_, _, rfl, ?_⟩; (conv => whnf))
          | (refine ⟨_, _, _, rfl, ?_⟩; (conv => whnf))
          | (refine ⟨_, _, _, _, rfl, ?_⟩; (conv => whnf))
          | (refine ⟨_, _, (by with_reducible assumption), ?_⟩; (conv => whnf))
          | (refine ⟨_, (by first | with_reducible assumption | exact rfl), ?_⟩; (conv => whnf))
          | (refine And.intro (fun c => ?_) (fun c => ?_) <;> (first | (exact absurd c (by decide +kernel)) | (exact absurd c (by assumption)) | (exact False.elim (c (by assumption))) | (conv => whnf)))
          | fail)
        intro J0 hJ0 hp0
        (conv => whnf)
        have hp0 : t_ps J0 n (.inr (p_tks f n (nI 43) (k)).2) := hp0
        rw [p_tks_t a0] at hp0
        have eb0 : p_tkb (.inr (k)) (p_tks f n (Int32.ofInt 43)) = true := by
          show (p_tks f n (nI 43) (k)).1 = _
          rw [p_tks_t a0]
        have lf0 := hM.tr hJ0.l
        have lp0 := hlp.pf0 hJ0 hp0 (by first | omega | (simp only; omega))
        have tx0 := hJ0.tx htM
        have fin := nxt 2 J0 (by unfold l_op1;  rw [if_pos a0]) (by omega) (p_at_lt a0 (by decide +kernel)) lf0 lp0
        clear nxt
        repeat' (first
          | ((with_reducible refine @And.intro (vp_in _ _) _ ?_ ?_); (· (first | with_reducible assumption | ((with_reducible refine t_vin ?_); decide) | ((with_reducible refine vp_in_nI ?_ ?_) <;> first | omega | decide) | (simp (disch := omega) only [xl_n, xl_m, nI_dec, nI_sb, nI_add, pk_mul]; (with_reducible refine vp_in_nI ?_ ?_) <;> first | omega | decide))); (conv => whnf))
          | (refine And.intro (by first | with_reducible assumption | exact (show tL _ = _ from rfl) | decide) ?_; (conv => whnf))
          | ((with_reducible refine @And.intro (_ = _) _ ?_ ?_); (· rfl); (conv => whnf))
          | ((with_reducible refine @And.intro (@LE.le Nat _ _ _) _ ?_ ?_); (· (first | exact Nat.zero_le _ | exact Nat.le_of_ble_eq_true rfl | omega)); (conv => whnf))
          | ((with_reducible refine @And.intro (@LT.lt Nat _ _ _) _ ?_ ?_); (· omega); (conv => whnf))
          | ((with_reducible refine @And.intro (∃ _, _ = _) _ ?_ ?_); (· exact ⟨_, rfl⟩); (conv => whnf))
          | ((with_reducible refine @And.intro (_ ∨ _) _ ?_ ?_); (· (first | exact Or.inl rfl | exact Or.inr rfl | exact t_b01 _ | assumption)); (conv => whnf))
          | ((with_reducible refine @And.intro (¬ (_ = _)) _ ?_ ?_); (· first | assumption | (with_reducible assumption)); (conv => whnf))
          | (refine hX _ _ _ _ _ _ ?_; (conv => whnf); fail_if_success show False)
          | (rw [t_si]; (conv => whnf))
          | (refine ⟨_, rfl, ?_⟩; (conv => whnf))
          | (refine ⟨_, _, rfl, ?_⟩; (conv => whnf))
          | (refine ⟨_, _, _, rfl, ?_⟩; (conv => whnf))
          | (refine ⟨_, _, _, _, rfl, ?_⟩; (conv => whnf))
          | (rw [eb0]; (conv => whnf))
          | (refine ⟨_, _, (by with_reducible assumption), ?_⟩; (conv => whnf))
          | (refine ⟨_, (by first | with_reducible assumption | exact rfl), ?_⟩; (conv => whnf))
          | (refine And.intro (fun c => ?_) (fun c => ?_) <;> (first | (exact absurd c (by decide +kernel)) | (exact absurd c (by assumption)) | (exact False.elim (c (by assumption))) | (conv => whnf)))
          | fail)
        exact fin
      · by_cases a1 : p_at f n (p_bl f n k) = nI 45
        · have h43 : ¬ nI 43 = nM := by decide +kernel
          have h45 : ¬ nI 45 = nM := by decide +kernel
          refine hG _ _ _ _ _ _ ?_
          (conv => whnf)
          repeat' (first
            | ((with_reducible refine @And.intro (vp_in _ _) _ ?_ ?_); (· (first | with_reducible assumption | ((with_reducible refine t_vin ?_); decide) | ((with_reducible refine vp_in_nI ?_ ?_) <;> first | omega | decide) | (simp (disch := omega) only [xl_n, xl_m, nI_dec, nI_sb, nI_add, pk_mul]; (with_reducible refine vp_in_nI ?_ ?_) <;> first | omega | decide))); (conv => whnf))
            | (refine And.intro (by first | with_reducible assumption | exact (show tL _ = _ from rfl) | decide) ?_; (conv => whnf))
            | ((with_reducible refine @And.intro (_ = _) _ ?_ ?_); (· rfl); (conv => whnf))
            | ((with_reducible refine @And.intro (@LE.le Nat _ _ _) _ ?_ ?_); (· (first | exact Nat.zero_le _ | exact Nat.le_of_ble_eq_true rfl | omega)); (conv => whnf))
            | ((with_reducible refine @And.intro (@LT.lt Nat _ _ _) _ ?_ ?_); (· omega); (conv => whnf))
            | ((with_reducible refine @And.intro (∃ _, _ = _) _ ?_ ?_); (· exact ⟨_, rfl⟩); (conv => whnf))
            | ((with_reducible refine @And.intro (_ ∨ _) _ ?_ ?_); (· (first | exact Or.inl rfl | exact Or.inr rfl | exact t_b01 _ | assumption)); (conv => whnf))
            | ((with_reducible refine @And.intro (¬ (_ = _)) _ ?_ ?_); (· first | assumption | (with_reducible assumption)); (conv => whnf))
            | (refine hX _ _ _ _ _ _ ?_; (conv => whnf); fail_if_success show False)
            | (rw [t_si]; (conv => whnf))
            | (refine ⟨_, rfl, ?_⟩; (conv => whnf))
            | (refine ⟨_, _, rfl, ?_⟩; (conv => whnf))
            | (refine ⟨_, _, _, rfl, ?_⟩; (conv => whnf))
            | (refine ⟨_, _, _, _, rfl, ?_⟩; (conv => whnf))
            | (refine ⟨_, _, (by with_reducible assumption), ?_⟩; (conv => whnf))
            | (refine ⟨_, (by first | with_reducible assumption | exact rfl), ?_⟩; (conv => whnf))
            | (refine And.intro (fun c => ?_) (fun c => ?_) <;> (first | (exact absurd c (by decide +kernel)) | (exact absurd c (by assumption)) | (exact False.elim (c (by assumption))) | (conv => whnf)))
            | fail)
          intro J0 hJ0 hp0
          (conv => whnf)
          have hp0 : t_ps J0 n (.inr (p_tks f n (nI 43) (k)).2) := hp0
          rw [p_tks_f a0] at hp0
          have eb0 : p_tkb (.inr (k)) (p_tks f n (Int32.ofInt 43)) = false := by
            show (p_tks f n (nI 43) (k)).1 = _
            rw [p_tks_f a0]
          have lf0 := hM.tr hJ0.l
          have lp0 := hlp.pf0 hJ0 hp0 (by first | omega | (simp only; omega))
          have tx0 := hJ0.tx htM
          repeat' (first
            | ((with_reducible refine @And.intro (vp_in _ _) _ ?_ ?_); (· (first | with_reducible assumption | ((with_reducible refine t_vin ?_); decide) | ((with_reducible refine vp_in_nI ?_ ?_) <;> first | omega | decide) | (simp (disch := omega) only [xl_n, xl_m, nI_dec, nI_sb, nI_add, pk_mul]; (with_reducible refine vp_in_nI ?_ ?_) <;> first | omega | decide))); (conv => whnf))
            | (refine And.intro (by first | with_reducible assumption | exact (show tL _ = _ from rfl) | decide) ?_; (conv => whnf))
            | ((with_reducible refine @And.intro (_ = _) _ ?_ ?_); (· rfl); (conv => whnf))
            | ((with_reducible refine @And.intro (@LE.le Nat _ _ _) _ ?_ ?_); (· (first | exact Nat.zero_le _ | exact Nat.le_of_ble_eq_true rfl | omega)); (conv => whnf))
            | ((with_reducible refine @And.intro (@LT.lt Nat _ _ _) _ ?_ ?_); (· omega); (conv => whnf))
            | ((with_reducible refine @And.intro (∃ _, _ = _) _ ?_ ?_); (· exact ⟨_, rfl⟩); (conv => whnf))
            | ((with_reducible refine @And.intro (_ ∨ _) _ ?_ ?_); (· (first | exact Or.inl rfl | exact Or.inr rfl | exact t_b01 _ | assumption)); (conv => whnf))
            | ((with_reducible refine @And.intro (¬ (_ = _)) _ ?_ ?_); (· first | assumption | (with_reducible assumption)); (conv => whnf))
            | (refine hX _ _ _ _ _ _ ?_; (conv => whnf); fail_if_success show False)
            | (rw [t_si]; (conv => whnf))
            | (refine ⟨_, rfl, ?_⟩; (conv => whnf))
            | (refine ⟨_, _, rfl, ?_⟩; (conv => whnf))
            | (refine ⟨_, _, _, rfl, ?_⟩; (conv => whnf))
            | (refine ⟨_, _, _, _, rfl, ?_⟩; (conv => whnf))
            | (rw [eb0]; (conv => whnf))
            | (refine ⟨_, _, (by with_reducible assumption), ?_⟩; (conv => whnf))
            | (refine ⟨_, (by first | with_reducible assumption | exact rfl), ?_⟩; (conv => whnf))
            | (refine And.intro (fun c => ?_) (fun c => ?_) <;> (first | (exact absurd c (by decide +kernel)) | (exact absurd c (by assumption)) | (exact False.elim (c (by assumption))) | (conv => whnf)))
            | fail)
          intro J1 hJ1 hp1
          (conv => whnf)
          have hp1 : t_ps J1 n (.inr (p_tks f n (nI 45) (p_bl f n k)).2) := hp1
          rw [p_tks_t (by rw [hbb]; exact a1), hbb] at hp1
          have eb1 : p_tkb (.inr (p_bl f n k)) (p_tks f n (Int32.ofInt 45)) = true := by
            show (p_tks f n (nI 45) (p_bl f n k)).1 = _
            rw [p_tks_t (by rw [hbb]; exact a1)]
          have lf1 := lf0.tr hJ1.l
          have lp1 := lp0.pf0 hJ1 hp1 (by first | omega | (simp only; omega))
          have tx1 := hJ1.tx tx0
          have fin := nxt 3 J1 (by unfold l_op1; rw [if_neg a0]; rw [if_pos a1]) (by omega) (p_at_lt a1 (by decide +kernel)) lf1 lp1
          clear nxt
          repeat' (first
            | ((with_reducible refine @And.intro (vp_in _ _) _ ?_ ?_); (· (first | with_reducible assumption | ((with_reducible refine t_vin ?_); decide) | ((with_reducible refine vp_in_nI ?_ ?_) <;> first | omega | decide) | (simp (disch := omega) only [xl_n, xl_m, nI_dec, nI_sb, nI_add, pk_mul]; (with_reducible refine vp_in_nI ?_ ?_) <;> first | omega | decide))); (conv => whnf))
            | (refine And.intro (by first | with_reducible assumption | exact (show tL _ = _ from rfl) | decide) ?_; (conv => whnf))
            | ((with_reducible refine @And.intro (_ = _) _ ?_ ?_); (· rfl); (conv => whnf))
            | ((with_reducible refine @And.intro (@LE.le Nat _ _ _) _ ?_ ?_); (· (first | exact Nat.zero_le _ | exact Nat.le_of_ble_eq_true rfl | omega)); (conv => whnf))
            | ((with_reducible refine @And.intro (@LT.lt Nat _ _ _) _ ?_ ?_); (· omega); (conv => whnf))
            | ((with_reducible refine @And.intro (∃ _, _ = _) _ ?_ ?_); (· exact ⟨_, rfl⟩); (conv => whnf))
            | ((with_reducible refine @And.intro (_ ∨ _) _ ?_ ?_); (· (first | exact Or.inl rfl | exact Or.inr rfl | exact t_b01 _ | assumption)); (conv => whnf))
            | ((with_reducible refine @And.intro (¬ (_ = _)) _ ?_ ?_); (· first | assumption | (with_reducible assumption)); (conv => whnf))
            | (refine hX _ _ _ _ _ _ ?_; (conv => whnf); fail_if_success show False)
            | (rw [t_si]; (conv => whnf))
            | (refine ⟨_, rfl, ?_⟩; (conv => whnf))
            | (refine ⟨_, _, rfl, ?_⟩; (conv => whnf))
            | (refine ⟨_, _, _, rfl, ?_⟩; (conv => whnf))
            | (refine ⟨_, _, _, _, rfl, ?_⟩; (conv => whnf))
            | (rw [eb1]; (conv => whnf))
            | (refine ⟨_, _, (by with_reducible assumption), ?_⟩; (conv => whnf))
            | (refine ⟨_, (by first | with_reducible assumption | exact rfl), ?_⟩; (conv => whnf))
            | (refine And.intro (fun c => ?_) (fun c => ?_) <;> (first | (exact absurd c (by decide +kernel)) | (exact absurd c (by assumption)) | (exact False.elim (c (by assumption))) | (conv => whnf)))
            | fail)
          exact fin
        · have h43 : ¬ nI 43 = nM := by decide +kernel
          have h45 : ¬ nI 45 = nM := by decide +kernel
          refine hG _ _ _ _ _ _ ?_
          (conv => whnf)
          repeat' (first
            | ((with_reducible refine @And.intro (vp_in _ _) _ ?_ ?_); (· (first | with_reducible assumption | ((with_reducible refine t_vin ?_); decide) | ((with_reducible refine vp_in_nI ?_ ?_) <;> first | omega | decide) | (simp (disch := omega) only [xl_n, xl_m, nI_dec, nI_sb, nI_add, pk_mul]; (with_reducible refine vp_in_nI ?_ ?_) <;> first | omega | decide))); (conv => whnf))
            | (refine And.intro (by first | with_reducible assumption | exact (show tL _ = _ from rfl) | decide) ?_; (conv => whnf))
            | ((with_reducible refine @And.intro (_ = _) _ ?_ ?_); (· rfl); (conv => whnf))
            | ((with_reducible refine @And.intro (@LE.le Nat _ _ _) _ ?_ ?_); (· (first | exact Nat.zero_le _ | exact Nat.le_of_ble_eq_true rfl | omega)); (conv => whnf))
            | ((with_reducible refine @And.intro (@LT.lt Nat _ _ _) _ ?_ ?_); (· omega); (conv => whnf))
            | ((with_reducible refine @And.intro (∃ _, _ = _) _ ?_ ?_); (· exact ⟨_, rfl⟩); (conv => whnf))
            | ((with_reducible refine @And.intro (_ ∨ _) _ ?_ ?_); (· (first | exact Or.inl rfl | exact Or.inr rfl | exact t_b01 _ | assumption)); (conv => whnf))
            | ((with_reducible refine @And.intro (¬ (_ = _)) _ ?_ ?_); (· first | assumption | (with_reducible assumption)); (conv => whnf))
            | (refine hX _ _ _ _ _ _ ?_; (conv => whnf); fail_if_success show False)
            | (rw [t_si]; (conv => whnf))
            | (refine ⟨_, rfl, ?_⟩; (conv => whnf))
            | (refine ⟨_, _, rfl, ?_⟩; (conv => whnf))
            | (refine ⟨_, _, _, rfl, ?_⟩; (conv => whnf))
            | (refine ⟨_, _, _, _, rfl, ?_⟩; (conv => whnf))
            | (refine ⟨_, _, (by with_reducible assumption), ?_⟩; (conv => whnf))
            | (refine ⟨_, (by first | with_reducible assumption | exact rfl), ?_⟩; (conv => whnf))
            | (refine And.intro (fun c => ?_) (fun c => ?_) <;> (first | (exact absurd c (by decide +kernel)) | (exact absurd c (by assumption)) | (exact False.elim (c (by assumption))) | (conv => whnf)))
            | fail)
          intro J0 hJ0 hp0
          (conv => whnf)
          have hp0 : t_ps J0 n (.inr (p_tks f n (nI 43) (k)).2) := hp0
          rw [p_tks_f a0] at hp0
          have eb0 : p_tkb (.inr (k)) (p_tks f n (Int32.ofInt 43)) = false := by
            show (p_tks f n (nI 43) (k)).1 = _
            rw [p_tks_f a0]
          have lf0 := hM.tr hJ0.l
          have lp0 := hlp.pf0 hJ0 hp0 (by first | omega | (simp only; omega))
          have tx0 := hJ0.tx htM
          repeat' (first
            | ((with_reducible refine @And.intro (vp_in _ _) _ ?_ ?_); (· (first | with_reducible assumption | ((with_reducible refine t_vin ?_); decide) | ((with_reducible refine vp_in_nI ?_ ?_) <;> first | omega | decide) | (simp (disch := omega) only [xl_n, xl_m, nI_dec, nI_sb, nI_add, pk_mul]; (with_reducible refine vp_in_nI ?_ ?_) <;> first | omega | decide))); (conv => whnf))
            | (refine And.intro (by first | with_reducible assumption | exact (show tL _ = _ from rfl) | decide) ?_; (conv => whnf))
            | ((with_reducible refine @And.intro (_ = _) _ ?_ ?_); (· rfl); (conv => whnf))
            | ((with_reducible refine @And.intro (@LE.le Nat _ _ _) _ ?_ ?_); (· (first | exact Nat.zero_le _ | exact Nat.le_of_ble_eq_true rfl | omega)); (conv => whnf))
            | ((with_reducible refine @And.intro (@LT.lt Nat _ _ _) _ ?_ ?_); (· omega); (conv => whnf))
            | ((with_reducible refine @And.intro (∃ _, _ = _) _ ?_ ?_); (· exact ⟨_, rfl⟩); (conv => whnf))
            | ((with_reducible refine @And.intro (_ ∨ _) _ ?_ ?_); (· (first | exact Or.inl rfl | exact Or.inr rfl | exact t_b01 _ | assumption)); (conv => whnf))
            | ((with_reducible refine @And.intro (¬ (_ = _)) _ ?_ ?_); (· first | assumption | (with_reducible assumption)); (conv => whnf))
            | (refine hX _ _ _ _ _ _ ?_; (conv => whnf); fail_if_success show False)
            | (rw [t_si]; (conv => whnf))
            | (refine ⟨_, rfl, ?_⟩; (conv => whnf))
            | (refine ⟨_, _, rfl, ?_⟩; (conv => whnf))
            | (refine ⟨_, _, _, rfl, ?_⟩; (conv => whnf))
            | (refine ⟨_, _, _, _, rfl, ?_⟩; (conv => whnf))
            | (rw [eb0]; (conv => whnf))
            | (refine ⟨_, _, (by with_reducible assumption), ?_⟩; (conv => whnf))
            | (refine ⟨_, (by first | with_reducible assumption | exact rfl), ?_⟩; (conv => whnf))
            | (refine And.intro (fun c => ?_) (fun c => ?_) <;> (first | (exact absurd c (by decide +kernel)) | (exact absurd c (by assumption)) | (exact False.elim (c (by assumption))) | (conv => whnf)))
            | fail)
          intro J1 hJ1 hp1
          (conv => whnf)
          have hp1 : t_ps J1 n (.inr (p_tks f n (nI 45) (p_bl f n k)).2) := hp1
          rw [p_tks_f (by rw [hbb]; exact a1), hbb] at hp1
          have eb1 : p_tkb (.inr (p_bl f n k)) (p_tks f n (Int32.ofInt 45)) = false := by
            show (p_tks f n (nI 45) (p_bl f n k)).1 = _
            rw [p_tks_f (by rw [hbb]; exact a1)]
          have lf1 := lf0.tr hJ1.l
          have lp1 := lp0.pf0 hJ1 hp1 (by first | omega | (simp only; omega))
          have tx1 := hJ1.tx tx0
          have fin : Q none (tW J1) := by
            have e : l_op1 (p_at f n (p_bl f n k)) = nM := by unfold l_op1; rw [if_neg a0]; rw [if_neg a1]
            rw [if_pos e] at hQ
            exact hQ J1 lf1 lp1
          clear nxt
          repeat' (first
            | ((with_reducible refine @And.intro (vp_in _ _) _ ?_ ?_); (· (first | with_reducible assumption | ((with_reducible refine t_vin ?_); decide) | ((with_reducible refine vp_in_nI ?_ ?_) <;> first | omega | decide) | (simp (disch := omega) only [xl_n, xl_m, nI_dec, nI_sb, nI_add, pk_mul]; (with_reducible refine vp_in_nI ?_ ?_) <;> first | omega | decide))); (conv => whnf))
            | (refine And.intro (by first | with_reducible assumption | exact (show tL _ = _ from rfl) | decide) ?_; (conv => whnf))
            | ((with_reducible refine @And.intro (_ = _) _ ?_ ?_); (· rfl); (conv => whnf))
            | ((with_reducible refine @And.intro (@LE.le Nat _ _ _) _ ?_ ?_); (· (first | exact Nat.zero_le _ | exact Nat.le_of_ble_eq_true rfl | omega)); (conv => whnf))
            | ((with_reducible refine @And.intro (@LT.lt Nat _ _ _) _ ?_ ?_); (· omega); (conv => whnf))
            | ((with_reducible refine @And.intro (∃ _, _ = _) _ ?_ ?_); (· exact ⟨_, rfl⟩); (conv => whnf))
            | ((with_reducible refine @And.intro (_ ∨ _) _ ?_ ?_); (· (first | exact Or.inl rfl | exact Or.inr rfl | exact t_b01 _ | assumption)); (conv => whnf))
            | ((with_reducible refine @And.intro (¬ (_ = _)) _ ?_ ?_); (· first | assumption | (with_reducible assumption)); (conv => whnf))
            | (refine hX _ _ _ _ _ _ ?_; (conv => whnf); fail_if_success show False)
            | (rw [t_si]; (conv => whnf))
            | (refine ⟨_, rfl, ?_⟩; (conv => whnf))
            | (refine ⟨_, _, rfl, ?_⟩; (conv => whnf))
            | (refine ⟨_, _, _, rfl, ?_⟩; (conv => whnf))
            | (refine ⟨_, _, _, _, rfl, ?_⟩; (conv => whnf))
            | (rw [eb1]; (conv => whnf))
            | (refine ⟨_, _, (by with_reducible assumption), ?_⟩; (conv => whnf))
            | (refine ⟨_, (by first | with_reducible assumption | exact rfl), ?_⟩; (conv => whnf))
            | (refine And.intro (fun c => ?_) (fun c => ?_) <;> (first | (exact absurd c (by decide +kernel)) | (exact absurd c (by assumption)) | (exact False.elim (c (by assumption))) | (conv => whnf)))
            | fail)
          exact fin
  refine ⟨rfl, ?_⟩
  repeat' (first
    | (refine ⟨_,_,_,_,(by assumption),?_⟩; (conv => whnf))
    | ((with_reducible refine @And.intro (vp_in _ _) _ ?_ ?_); (· (first | with_reducible assumption | ((with_reducible refine t_vin ?_); decide) | ((with_reducible refine vp_in_nI ?_ ?_) <;> first | omega | decide) | (simp (disch := omega) only [xl_n, xl_m, nI_dec, nI_sb, nI_add, pk_mul]; (with_reducible refine vp_in_nI ?_ ?_) <;> first | omega | decide))); (conv => whnf))
    | (refine And.intro (by first | with_reducible assumption | exact (show tL _ = _ from rfl) | decide) ?_; (conv => whnf))
    | ((with_reducible refine @And.intro (_ = _) _ ?_ ?_); (· rfl); (conv => whnf))
    | ((with_reducible refine @And.intro (@LE.le Nat _ _ _) _ ?_ ?_); (· (first | exact Nat.zero_le _ | exact Nat.le_of_ble_eq_true rfl | omega)); (conv => whnf))
    | ((with_reducible refine @And.intro (@LT.lt Nat _ _ _) _ ?_ ?_); (· omega); (conv => whnf))
    | ((with_reducible refine @And.intro (∃ _, _ = _) _ ?_ ?_); (· exact ⟨_, rfl⟩); (conv => whnf))
    | ((with_reducible refine @And.intro (_ ∨ _) _ ?_ ?_); (· (first | exact Or.inl rfl | exact Or.inr rfl | exact t_b01 _ | assumption)); (conv => whnf))
    | ((with_reducible refine @And.intro (¬ (_ = _)) _ ?_ ?_); (· first | assumption | (with_reducible assumption)); (conv => whnf))
    | (refine hX _ _ _ _ _ _ ?_; (conv => whnf); fail_if_success show False)
    | (rw [t_si]; (conv => whnf))
    | (refine ⟨_, rfl, ?_⟩; (conv => whnf))
    | (refine ⟨_, _, rfl, ?_⟩; (conv => whnf))
    | (refine ⟨_, _, _, rfl, ?_⟩; (conv => whnf))
    | (refine ⟨_, _, _, _, rfl, ?_⟩; (conv => whnf))
    | (refine And.intro (fun c => ?_) (fun c => ?_) <;> (first | (exact absurd c (by decide +kernel)) | (conv => whnf)))
    | fail)
  intro J hJ hlp
  (conv => whnf)
  cases hq : p_go p (p_prodW f n (p_sm f n d)) with
  | inl e =>
    rw [hq] at hlp hQ
    have fin := loopE J e none hJ hlp hQ
    clear loop loopE
    repeat' (first
      | ((with_reducible refine @And.intro (vp_in _ _) _ ?_ ?_); (· (first | with_reducible assumption | ((with_reducible refine t_vin ?_); decide) | ((with_reducible refine vp_in_nI ?_ ?_) <;> first | omega | decide) | (simp (disch := omega) only [xl_n, xl_m, nI_dec, nI_sb, nI_add, pk_mul]; (with_reducible refine vp_in_nI ?_ ?_) <;> first | omega | decide))); (conv => whnf))
      | (refine And.intro (by first | with_reducible assumption | exact (show tL _ = _ from rfl) | decide) ?_; (conv => whnf))
      | ((with_reducible refine @And.intro (_ = _) _ ?_ ?_); (· rfl); (conv => whnf))
      | ((with_reducible refine @And.intro (@LE.le Nat _ _ _) _ ?_ ?_); (· (first | exact Nat.zero_le _ | exact Nat.le_of_ble_eq_true rfl | omega)); (conv => whnf))
      | ((with_reducible refine @And.intro (@LT.lt Nat _ _ _) _ ?_ ?_); (· omega); (conv => whnf))
      | ((with_reducible refine @And.intro (∃ _, _ = _) _ ?_ ?_); (· exact ⟨_, rfl⟩); (conv => whnf))
      | ((with_reducible refine @And.intro (_ ∨ _) _ ?_ ?_); (· (first | exact Or.inl rfl | exact Or.inr rfl | exact t_b01 _ | assumption)); (conv => whnf))
      | ((with_reducible refine @And.intro (¬ (_ = _)) _ ?_ ?_); (· first | assumption | (with_reducible assumption)); (conv => whnf))
      | (refine hX _ _ _ _ _ _ ?_; (conv => whnf); fail_if_success show False)
      | (rw [t_si]; (conv => whnf))
      | (refine ⟨_, rfl, ?_⟩; (conv => whnf))
      | (refine ⟨_, _, rfl, ?_⟩; (conv => whnf))
      | (refine ⟨_, _, _, rfl, ?_⟩; (conv => whnf))
      | (refine ⟨_, _, _, _, rfl, ?_⟩; (conv => whnf))
      | (refine And.intro (fun c => ?_) (fun c => ?_) <;> (first | (exact absurd c (by decide +kernel)) | (conv => whnf)))
      | fail)
    exact fin
  | inr e =>
    obtain ⟨L, k⟩ := e
    rw [hq] at hlp hQ
    have fin := loop (n + 1) L k J none (by omega) hJ hlp hQ
    clear loop loopE
    repeat' (first
      | ((with_reducible refine @And.intro (vp_in _ _) _ ?_ ?_); (· (first | with_reducible assumption | ((with_reducible refine t_vin ?_); decide) | ((with_reducible refine vp_in_nI ?_ ?_) <;> first | omega | decide) | (simp (disch := omega) only [xl_n, xl_m, nI_dec, nI_sb, nI_add, pk_mul]; (with_reducible refine vp_in_nI ?_ ?_) <;> first | omega | decide))); (conv => whnf))
      | (refine And.intro (by first | with_reducible assumption | exact (show tL _ = _ from rfl) | decide) ?_; (conv => whnf))
      | ((with_reducible refine @And.intro (_ = _) _ ?_ ?_); (· rfl); (conv => whnf))
      | ((with_reducible refine @And.intro (@LE.le Nat _ _ _) _ ?_ ?_); (· (first | exact Nat.zero_le _ | exact Nat.le_of_ble_eq_true rfl | omega)); (conv => whnf))
      | ((with_reducible refine @And.intro (@LT.lt Nat _ _ _) _ ?_ ?_); (· omega); (conv => whnf))
      | ((with_reducible refine @And.intro (∃ _, _ = _) _ ?_ ?_); (· exact ⟨_, rfl⟩); (conv => whnf))
      | ((with_reducible refine @And.intro (_ ∨ _) _ ?_ ?_); (· (first | exact Or.inl rfl | exact Or.inr rfl | exact t_b01 _ | assumption)); (conv => whnf))
      | ((with_reducible refine @And.intro (¬ (_ = _)) _ ?_ ?_); (· first | assumption | (with_reducible assumption)); (conv => whnf))
      | (refine hX _ _ _ _ _ _ ?_; (conv => whnf); fail_if_success show False)
      | (rw [t_si]; (conv => whnf))
      | (refine ⟨_, rfl, ?_⟩; (conv => whnf))
      | (refine ⟨_, _, rfl, ?_⟩; (conv => whnf))
      | (refine ⟨_, _, _, rfl, ?_⟩; (conv => whnf))
      | (refine ⟨_, _, _, _, rfl, ?_⟩; (conv => whnf))
      | (refine And.intro (fun c => ?_) (fun c => ?_) <;> (first | (exact absurd c (by decide +kernel)) | (conv => whnf)))
      | fail)
    exact fin
theorem ct_X11_sum {Iv : xI} (hI : xm_good Iv) : ∀ d, xm_Ct Iv yX11_sum (ws_ yX11_sum cX11_sum 2 none) (3 * d + 10) 0 0 (S_X11_sum d)
  | 0 => xm_ct0
  | d + 1 => xm_enter (rt := 2) (init := false) (by decide +kernel) rfl (fun h => by cases h) (Or.inr (Or.inr (Or.inl ⟨rfl, rfl⟩))) (oX11_sum hI d (c1_X11_product hI d (c1_X11_one hI d (ct_X11_sum hI d)))) (body_X11_sum d)
theorem cv_X11_sum {Iv : xI} {own : String} {cc : ByteArray} {fr pc idx : Nat} (hI : xm_good Iv) (hdg : decode cc pc = .ok (.invokevirtual idx, 3)) (hl : xm_ml own idx yX11_sum) (hfr : 31 < fr) : xm_CallOK Iv own cc fr pc (pc + 3) 1 0 0 (xm_this 8 (S_X11_sum 7)) := xm_callV 8 hI (ct_X11_sum hI 7) hdg hl q2246 qs74 q145 q2247 rfl rfl (by decide +kernel) hfr (by decide)
