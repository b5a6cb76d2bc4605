/-! ===== the reference: is it a word ===== -/
set_option maxRecDepth 100000
theorem p_bl_bl {f : Nat → Int32} {n k : Nat} (hk : k ≤ n) : p_bl f n (p_bl f n k) = p_bl f n k := p_sk_f fun q => (p_sk_in (q := p_isb) (f := f) (n := n) (Nat.le_refl _) hk).2.2 q
theorem p_ls_ok {f : Nat → Int32} {n k : Nat} : ∀ d, d ∈ p_ls f n k → 1 ≤ d ∧ d ≤ 26 := by
  intro d hd
  unfold p_ls at hd
  rw [List.mem_map] at hd
  obtain ⟨i, hi, rfl⟩ := hd
  rw [List.mem_range] at hi
  have hlet : t_let (f (k + i)) = true := p_sk_all (q := t_let) (f := f) (n := n) (Nat.le_refl _) (by show k + i < p_le f n k; omega)
  obtain ⟨d, hd1, hd2, ed⟩ := t_let_of hlet
  rw [ed, p_let_of hd2]
  exact ⟨hd1, hd2⟩
abbrev bX11_isWord_0 : List xE := [(.aload_n 0, 1, 0, 0, 0), (.getfield 150, 4, 8, 5, 0), (.ifCond .ne 29, 7, 0, 33, 0), (.aload_n 0, 8, 0, 0, 0), (.invokevirtual 181, 11, 0, 0, 9), (.iload_n 1, 12, 0, 0, 0), (.iload_n 2, 13, 0, 0, 0), (.iload_n 3, 14, 0, 0, 0), (.iload 4, 16, 0, 0, 0), (.iload 5, 18, 0, 0, 0), (.iload 6, 20, 0, 0, 0), (.iload 7, 22, 0, 0, 0), (.invokestatic 185, 25, 0, 1, 9), (.lcmp, 26, 0, 0, 0), (.ifCond .ne 7, 29, 0, 33, 0), (.iconst 1, 30, 0, 0, 0), (.goto 4, 33, 0, 34, 0)]
abbrev bX11_isWord_33 : List xE := [(.iconst 0, 34, 0, 0, 0)]
abbrev bX11_isWord_34 : List xE := [(.ireturn, 35, 0, 0, 0)]
abbrev kX11_isWord : List (Nat × List xE) := [(0, bX11_isWord_0), (33, bX11_isWord_33), (34, bX11_isWord_34)]
abbrev lX11_isWord : List (Nat × Nat × Nat × xS) := [(1, 0, 0, xm_this 8 S_X11_wordHere), (7, 0, 0, S_X11_seven)]
theorem oX11_isWord_0 {Iv : xI} (hI : xm_good Iv)  : xm_okb Iv RX11 cX11_isWord false 4 lX11_isWord bX11_isWord_0 0 := xo_0 dX11_isWord_0 rfl trivial (xo_0 dX11_isWord_1 rfl (xm_fg_of (Or.inl q1960) (by decide) rfl (by decide) rfl rfl (Or.inl rfl) rfl) (xo_0 dX11_isWord_4 rfl rfl (xo_0 dX11_isWord_7 rfl trivial (xo_c rfl (cv_X11_wordHere hI dX11_isWord_8 (Or.inl q2165) (by decide)) (xo_0 dX11_isWord_11 rfl trivial (xo_0 dX11_isWord_12 rfl trivial (xo_0 dX11_isWord_13 rfl trivial (xo_0 dX11_isWord_14 rfl trivial (xo_0 dX11_isWord_16 rfl trivial (xo_0 dX11_isWord_18 rfl trivial (xo_0 dX11_isWord_20 rfl trivial (xo_c rfl (cv_X11_seven hI dX11_isWord_22 (Or.inl q2175) (by decide)) (xo_0 dX11_isWord_25 rfl trivial (xo_0 dX11_isWord_26 rfl rfl (xo_0 dX11_isWord_29 rfl trivial (xo_0 dX11_isWord_30 rfl rfl (xo_n)))))))))))))))))
theorem oX11_isWord_33 {Iv : xI} (hI : xm_good Iv)  : xm_okb Iv RX11 cX11_isWord false 4 lX11_isWord bX11_isWord_33 33 := xo_0 dX11_isWord_33 rfl trivial (xo_n)
theorem oX11_isWord_34 {Iv : xI} (hI : xm_good Iv)  : xm_okb Iv RX11 cX11_isWord false 4 lX11_isWord bX11_isWord_34 34 := xo_0 dX11_isWord_34 rfl trivial (xo_n)
theorem oX11_isWord {Iv : xI} (hI : xm_good Iv)  : ∀ q ∈ kX11_isWord, xm_okb Iv RX11 cX11_isWord false 4 lX11_isWord q.2 q.1 := by
  intro q hq
  simp only [List.mem_cons, List.not_mem_nil, or_false] at hq
  rcases hq with rfl | rfl | rfl
  · exact oX11_isWord_0 hI  
  · exact oX11_isWord_33 hI  
  · exact oX11_isWord_34 hI  
def S_X11_isWord : xS := tU fun as I Q => ∃ a b c d e g h, as = [.ref 0, .int a, .int b, .int c, .int d, .int e, .int g, .int h] ∧ p_kok a b c d e g h ∧ I 0 5 = nI 0 ∧ ∃ f n, t_tx I f n ∧ ∃ k, I 0 4 = nI k ∧ k ≤ n ∧ Q (some (.int (t_b (decide (p_ls f n (p_bl f n k) = p_kw a b c d e g h))))) (xm_u2 I 0 4 (nI (p_bl f n k)))
theorem body_X11_isWord : xm_Body 8 1 0 0 [] lX11_isWord kX11_isWord S_X11_isWord := by
  intro X avs w Q QX hX0 hS
  have hG := xm_go [] hX0
  have hX := xm_go [] hX0
  clear hX0
  obtain ⟨I, rfl, va, vb, vc, vd, ve, vf, vg, rfl, hkok, h5, f, n, ht, k, h4, hk, hQ⟩ := hS
  have hw := p_wd_eq hkok (p_ls_ok (f := f) (n := n) (k := p_bl f n k))
  refine ⟨rfl, ?_⟩
  repeat' (first
    | ((with_reducible refine @And.intro (vp_in _ _) _ ?_ ?_); (· (first | with_reducible assumption | ((with_reducible refine t_vin ?_); decide) | ((with_reducible refine vp_in_nI ?_ ?_) <;> first | omega | decide) | (simp (disch := omega) only [xl_n, xl_m, nI_dec, nI_sb, nI_add, pk_mul]; (with_reducible refine vp_in_nI ?_ ?_) <;> first | omega | decide))); (conv => whnf))
    | (refine And.intro (by first | with_reducible assumption | exact (show tL _ = _ from rfl) | decide) ?_; (conv => whnf))
    | ((with_reducible refine @And.intro (_ = _) _ ?_ ?_); (· rfl); (conv => whnf))
    | ((with_reducible refine @And.intro (@LE.le Nat _ _ _) _ ?_ ?_); (· (first | exact Nat.zero_le _ | exact Nat.le_of_ble_eq_true rfl | omega)); (conv => whnf))
    | ((with_reducible refine @And.intro (@LT.lt Nat _ _ _) _ ?_ ?_); (· omega); (conv => whnf))
    | ((with_reducible refine @And.intro (∃ _, _ = _) _ ?_ ?_); (· exact ⟨_, rfl⟩); (conv => whnf))
    | ((with_reducible refine @And.intro (_ ∨ _) _ ?_ ?_); (· (first | exact Or.inl rfl | exact Or.inr rfl | exact t_b01 _ | assumption)); (conv => whnf))
    | ((with_reducible refine @And.intro (¬ (_ = _)) _ ?_ ?_); (· first | assumption | (with_reducible assumption)); (conv => whnf))
    | (refine hX _ _ _ _ _ _ ?_; (conv => whnf); fail_if_success show False)
    | (rw [t_si]; (conv => whnf))
    | (refine ⟨_, rfl, ?_⟩; (conv => whnf))
    | (refine ⟨_, _, rfl, ?_⟩; (conv => whnf))
    | (refine ⟨_, _, _, rfl, ?_⟩; (conv => whnf))
    | (refine ⟨_, _, _, _, rfl, ?_⟩; (conv => whnf))
    | (refine ⟨_,_,_,_,_,_,_,rfl,?_⟩; (conv => whnf))
    | (refine ⟨_, _, (by with_reducible assumption), ?_⟩; (conv => whnf))
    | (refine ⟨_, (by first | with_reducible assumption | exact rfl), ?_⟩; (conv => whnf))
    | (refine And.intro (fun c => ?_) (fun c => ?_) <;> (first | (exact absurd c (by decide +kernel)) | (conv => whnf)))
    | fail)
  · exact absurd (h5.trans nI_0) (by assumption)
  · have hne : ¬ p_ls f n (p_bl f n k) = p_kw va vb vc vd ve vf vg := fun z => (show ¬ lg_cmp _ _ = 0 by assumption) ((lg_cmp_eq _ _).mpr (hw.mpr z))
    rw [decide_eq_false hne] at hQ
    exact t_q hQ xl_n.1
  · have he : p_ls f n (p_bl f n k) = p_kw va vb vc vd ve vf vg := hw.mp ((lg_cmp_eq _ _).mp (Classical.not_not.mp (by assumption)))
    rw [decide_eq_true he] at hQ
    exact t_q hQ xl_n.2.1
theorem ct_X11_isWord {Iv : xI} (hI : xm_good Iv) : xm_Ct Iv yX11_isWord (ws_ yX11_isWord cX11_isWord 8 (some .boolean)) 4 0 0 S_X11_isWord := xm_enter (rt := 1) (init := false) (by decide +kernel) rfl (fun h => by cases h) (Or.inr (Or.inl ⟨rfl, Or.inl rfl⟩)) (oX11_isWord hI) body_X11_isWord
theorem cv_X11_isWord {Iv : xI} {own : String} {cc : ByteArray} {fr pc idx : Nat} (hI : xm_good Iv) (hdg : decode cc pc = .ok (.invokevirtual idx, 3)) (hl : xm_ml own idx yX11_isWord) (hfr : 4 < fr) : xm_CallOK Iv own cc fr pc (pc + 3) 8 0 0 (xm_this 8 S_X11_isWord) := xm_callV 8 hI (ct_X11_isWord hI) hdg hl q2163 qs59 q145 q2164 rfl rfl (by decide +kernel) hfr (by decide)
/-! words that are known -/
theorem p_bz {b : Bool} (h : ¬ t_b b = 0) : b = true := by
  cases b with
  | true => rfl
  | false => exact absurd (show t_b false = 0 by decide +kernel) h
theorem p_bf {p : Prop} [Decidable p] (h : t_b (decide p) = 0) : ¬ p := of_decide_eq_false ((t_b0 _).mp h)
theorem p_bp {p : Prop} [Decidable p] (h : ¬ t_b (decide p) = 0) : p := of_decide_eq_true (p_bz h)
def p_kb (a b c d e f g : Int32) : Bool := decide (p_sv a b c d e f g = lN (p_code (p_kw a b c d e f g))) && Nat.ble (p_kw a b c d e f g).length 7 && (p_kw a b c d e f g).all (fun d => Nat.ble 1 d && Nat.ble d 26)
theorem p_kok_d {a b c d e f g : Int32} (h : p_kb a b c d e f g = true) : p_kok a b c d e f g := by
  unfold p_kb at h
  rw [Bool.and_eq_true, Bool.and_eq_true] at h
  exact ⟨of_decide_eq_true h.1.1, Nat.le_of_ble_eq_true h.1.2, h.2⟩
def p_wi (a b c d e f g : Int) : List Nat := p_kw (Int32.ofInt a) (Int32.ofInt b) (Int32.ofInt c) (Int32.ofInt d) (Int32.ofInt e) (Int32.ofInt f) (Int32.ofInt g)
abbrev bX11_takes_0 : List xE := [(.aload_n 0, 1, 0, 0, 0), (.iload_n 1, 2, 0, 0, 0), (.iload_n 2, 3, 0, 0, 0), (.iload_n 3, 4, 0, 0, 0), (.iload 4, 6, 0, 0, 0), (.iload 5, 8, 0, 0, 0), (.iload 6, 10, 0, 0, 0), (.iload 7, 12, 0, 0, 0), (.invokevirtual 189, 15, 0, 0, 9), (.istore 8, 17, 0, 0, 0), (.iload 8, 19, 0, 0, 0), (.ifCond .eq 7, 22, 0, 26, 0), (.aload_n 0, 23, 0, 0, 0), (.invokevirtual 193, 26, 0, 1, 9)]
abbrev bX11_takes_26 : List xE := [(.iload 8, 28, 0, 0, 0), (.ireturn, 29, 0, 0, 0)]
abbrev kX11_takes : List (Nat × List xE) := [(0, bX11_takes_0), (26, bX11_takes_26)]
abbrev lX11_takes : List (Nat × Nat × Nat × xS) := [(8, 0, 0, xm_this 8 S_X11_isWord), (1, 0, 0, xm_this 8 S_X11_skipWord)]
theorem oX11_takes_0 {Iv : xI} (hI : xm_good Iv)  : xm_okb Iv RX11 cX11_takes false 5 lX11_takes bX11_takes_0 0 := xo_0 dX11_takes_0 rfl trivial (xo_0 dX11_takes_1 rfl trivial (xo_0 dX11_takes_2 rfl trivial (xo_0 dX11_takes_3 rfl trivial (xo_0 dX11_takes_4 rfl trivial (xo_0 dX11_takes_6 rfl trivial (xo_0 dX11_takes_8 rfl trivial (xo_0 dX11_takes_10 rfl trivial (xo_c rfl (cv_X11_isWord hI dX11_takes_12 (Or.inl q2161) (by decide)) (xo_0 dX11_takes_15 rfl trivial (xo_0 dX11_takes_17 rfl trivial (xo_0 dX11_takes_19 rfl rfl (xo_0 dX11_takes_22 rfl trivial (xo_c rfl (cv_X11_skipWord hI dX11_takes_23 (Or.inl q2182) (by decide)) (xo_n))))))))))))))
theorem oX11_takes_26 {Iv : xI} (hI : xm_good Iv)  : xm_okb Iv RX11 cX11_takes false 5 lX11_takes bX11_takes_26 26 := xo_0 dX11_takes_26 rfl trivial (xo_0 dX11_takes_28 rfl trivial (xo_n))
theorem oX11_takes {Iv : xI} (hI : xm_good Iv)  : ∀ q ∈ kX11_takes, xm_okb Iv RX11 cX11_takes false 5 lX11_takes q.2 q.1 := by
  intro q hq
  simp only [List.mem_cons, List.not_mem_nil, or_false] at hq
  rcases hq with rfl | rfl
  · exact oX11_takes_0 hI  
  · exact oX11_takes_26 hI  
def S_X11_takes : xS := tU fun as I Q => ∃ a b c d e g h, as = [.ref 0, .int a, .int b, .int c, .int d, .int e, .int g, .int h] ∧ p_kok a b c d e g h ∧ I 0 5 = nI 0 ∧ ∃ f n, t_tx I f n ∧ ∃ k, I 0 4 = nI k ∧ k ≤ n ∧ Q (some (.int (t_b (decide (p_ls f n (p_bl f n k) = p_kw a b c d e g h))))) (xm_u2 I 0 4 (nI (if p_ls f n (p_bl f n k) = p_kw a b c d e g h then p_le f n (p_bl f n k) else p_bl f n k)))
theorem body_X11_takes : xm_Body 9 1 0 0 [] lX11_takes kX11_takes S_X11_takes := by
  intro X avs w Q QX hX0 hS
  have hG := xm_go [] hX0
  have hX := xm_go [] hX0
  clear hX0
  obtain ⟨I, rfl, va, vb, vc, vd, ve, vf, vg, rfl, hkok, h5, f, n, ht, k, h4, hk, hQ⟩ := hS
  obtain ⟨hb1, hb2⟩ := p_bl_in (f := f) hk
  generalize hb : p_bl f n k = b at hb1 hb2 hQ
  have hW : t_pf I (xm_u2 I 0 4 (nI b)) := t_pf.u (Or.inl rfl)
  have htb := hW.tx ht
  have f5 : xm_u2 I 0 4 (nI b) 0 5 = nI 0 := by rw [xm_u2_at, if_neg (by decide)]; exact h5
  refine ⟨rfl, ?_⟩
  repeat' (first
    | ((with_reducible refine @And.intro (vp_in _ _) _ ?_ ?_); (· (first | with_reducible assumption | ((with_reducible refine t_vin ?_); decide) | ((with_reducible refine vp_in_nI ?_ ?_) <;> first | omega | decide) | (simp (disch := omega) only [xl_n, xl_m, nI_dec, nI_sb, nI_add, pk_mul]; (with_reducible refine vp_in_nI ?_ ?_) <;> first | omega | decide))); (conv => whnf))
    | (refine And.intro (by first | with_reducible assumption | exact (show tL _ = _ from rfl) | decide) ?_; (conv => whnf))
    | ((with_reducible refine @And.intro (_ = _) _ ?_ ?_); (· rfl); (conv => whnf))
    | ((with_reducible refine @And.intro (@LE.le Nat _ _ _) _ ?_ ?_); (· (first | exact Nat.zero_le _ | exact Nat.le_of_ble_eq_true rfl | omega)); (conv => whnf))
    | ((with_reducible refine @And.intro (@LT.lt Nat _ _ _) _ ?_ ?_); (· omega); (conv => whnf))
    | ((with_reducible refine @And.intro (∃ _, _ = _) _ ?_ ?_); (· exact ⟨_, rfl⟩); (conv => whnf))
    | ((with_reducible refine @And.intro (_ ∨ _) _ ?_ ?_); (· (first | exact Or.inl rfl | exact Or.inr rfl | exact t_b01 _ | assumption)); (conv => whnf))
    | ((with_reducible refine @And.intro (¬ (_ = _)) _ ?_ ?_); (· first | assumption | (with_reducible assumption)); (conv => whnf))
    | (refine hX _ _ _ _ _ _ ?_; (conv => whnf); fail_if_success show False)
    | (rw [t_si]; (conv => whnf))
    | (refine ⟨_, rfl, ?_⟩; (conv => whnf))
    | (refine ⟨_, _, rfl, ?_⟩; (conv => whnf))
    | (refine ⟨_, _, _, rfl, ?_⟩; (conv => whnf))
    | (refine ⟨_, _, _, _, rfl, ?_⟩; (conv => whnf))
    | (rw [hb]; (conv => whnf))
    | (rw [xm_u2_u2]; (conv => whnf))
    | (refine ⟨_,_,_,_,_,_,_,rfl,(by assumption),(by assumption),?_⟩; (conv => whnf))
    | (refine ⟨_, _, (by with_reducible assumption), ?_⟩; (conv => whnf))
    | (refine ⟨_, (by first | with_reducible assumption | exact rfl), ?_⟩; (conv => whnf))
    | (refine And.intro (fun c => ?_) (fun c => ?_) <;> (first | (exact absurd c (by decide +kernel)) | (conv => whnf)))
    | fail)
  · have h1 : decide (p_ls f n b = p_kw va vb vc vd ve vf vg) = false := (t_bn0 _).mp (show t_b _ = 0 by assumption)
    rw [if_neg (of_decide_eq_false h1)] at hQ
    exact hQ
  · have h1 : decide (p_ls f n b = p_kw va vb vc vd ve vf vg) = true := p_bz (show ¬ t_b _ = 0 by assumption)
    rw [if_pos (of_decide_eq_true h1)] at hQ
    exact hQ
theorem ct_X11_takes {Iv : xI} (hI : xm_good Iv) : xm_Ct Iv yX11_takes (ws_ yX11_takes cX11_takes 9 (some .boolean)) 5 0 0 S_X11_takes := xm_enter (rt := 1) (init := false) (by decide +kernel) rfl (fun h => by cases h) (Or.inr (Or.inl ⟨rfl, Or.inl rfl⟩)) (oX11_takes hI) body_X11_takes
theorem cv_X11_takes {Iv : xI} {own : String} {cc : ByteArray} {fr pc idx : Nat} (hI : xm_good Iv) (hdg : decode cc pc = .ok (.invokevirtual idx, 3)) (hl : xm_ml own idx yX11_takes) (hfr : 5 < fr) : xm_CallOK Iv own cc fr pc (pc + 3) 8 0 0 (xm_this 8 S_X11_takes) := xm_callV 8 hI (ct_X11_takes hI) hdg hl q2270 qs80 q145 q2271 rfl rfl (by decide +kernel) hfr (by decide)
def p_kind (L : List Nat) : Int32 :=
  if L = p_wi 8 1 14 4 0 0 0 then nI 0 else if L = p_wi 16 21 16 16 5 20 0 then nI 1 else if L = p_wi 1 3 20 0 0 0 0 then nI 2 else if L = p_wi 23 15 18 11 19 0 0 then nI 3 else
  if L = p_wi 17 21 1 18 18 5 12 then nI 4 else if L = p_wi 19 9 12 5 14 20 0 then nI 5 else if L = p_wi 15 23 5 19 0 0 0 then nI 6 else if L = p_wi 23 5 1 18 0 0 0 then nI 7 else nM
abbrev bX11_kindHere_0 : List xE := [(.aload_n 0, 1, 0, 0, 0), (.bipush 8, 3, 0, 0, 0), (.iconst 1, 4, 0, 0, 0), (.bipush 14, 6, 0, 0, 0), (.iconst 4, 7, 0, 0, 0), (.iconst 0, 8, 0, 0, 0), (.iconst 0, 9, 0, 0, 0), (.iconst 0, 10, 0, 0, 0), (.invokevirtual 189, 13, 0, 0, 9), (.ifCond .eq 5, 16, 0, 18, 0), (.iconst 0, 17, 0, 0, 0), (.ireturn, 18, 0, 0, 0)]
abbrev bX11_kindHere_18 : List xE := [(.aload_n 0, 19, 0, 0, 0), (.bipush 16, 21, 0, 0, 0), (.bipush 21, 23, 0, 0, 0), (.bipush 16, 25, 0, 0, 0), (.bipush 16, 27, 0, 0, 0), (.iconst 5, 28, 0, 0, 0), (.bipush 20, 30, 0, 0, 0), (.iconst 0, 31, 0, 0, 0), (.invokevirtual 189, 34, 0, 0, 9), (.ifCond .eq 5, 37, 0, 39, 0), (.iconst 1, 38, 0, 0, 0), (.ireturn, 39, 0, 0, 0)]
abbrev bX11_kindHere_39 : List xE := [(.aload_n 0, 40, 0, 0, 0), (.iconst 1, 41, 0, 0, 0), (.iconst 3, 42, 0, 0, 0), (.bipush 20, 44, 0, 0, 0), (.iconst 0, 45, 0, 0, 0), (.iconst 0, 46, 0, 0, 0), (.iconst 0, 47, 0, 0, 0), (.iconst 0, 48, 0, 0, 0), (.invokevirtual 189, 51, 0, 0, 9), (.ifCond .eq 5, 54, 0, 56, 0), (.iconst 2, 55, 0, 0, 0), (.ireturn, 56, 0, 0, 0)]
abbrev bX11_kindHere_56 : List xE := [(.aload_n 0, 57, 0, 0, 0), (.bipush 23, 59, 0, 0, 0), (.bipush 15, 61, 0, 0, 0), (.bipush 18, 63, 0, 0, 0), (.bipush 11, 65, 0, 0, 0), (.bipush 19, 67, 0, 0, 0), (.iconst 0, 68, 0, 0, 0), (.iconst 0, 69, 0, 0, 0), (.invokevirtual 189, 72, 0, 0, 9), (.ifCond .eq 5, 75, 0, 77, 0), (.iconst 3, 76, 0, 0, 0), (.ireturn, 77, 0, 0, 0)]
abbrev bX11_kindHere_77 : List xE := [(.aload_n 0, 78, 0, 0, 0), (.bipush 17, 80, 0, 0, 0), (.bipush 21, 82, 0, 0, 0), (.iconst 1, 83, 0, 0, 0), (.bipush 18, 85, 0, 0, 0), (.bipush 18, 87, 0, 0, 0), (.iconst 5, 88, 0, 0, 0), (.bipush 12, 90, 0, 0, 0), (.invokevirtual 189, 93, 0, 0, 9), (.ifCond .eq 5, 96, 0, 98, 0), (.iconst 4, 97, 0, 0, 0), (.ireturn, 98, 0, 0, 0)]
abbrev bX11_kindHere_98 : List xE := [(.aload_n 0, 99, 0, 0, 0), (.bipush 19, 101, 0, 0, 0), (.bipush 9, 103, 0, 0, 0), (.bipush 12, 105, 0, 0, 0), (.iconst 5, 106, 0, 0, 0), (.bipush 14, 108, 0, 0, 0), (.bipush 20, 110, 0, 0, 0), (.iconst 0, 111, 0, 0, 0), (.invokevirtual 189, 114, 0, 0, 9), (.ifCond .eq 5, 117, 0, 119, 0), (.iconst 5, 118, 0, 0, 0), (.ireturn, 119, 0, 0, 0)]
abbrev bX11_kindHere_119 : List xE := [(.aload_n 0, 120, 0, 0, 0), (.bipush 15, 122, 0, 0, 0), (.bipush 23, 124, 0, 0, 0), (.iconst 5, 125, 0, 0, 0), (.bipush 19, 127, 0, 0, 0), (.iconst 0, 128, 0, 0, 0), (.iconst 0, 129, 0, 0, 0), (.iconst 0, 130, 0, 0, 0), (.invokevirtual 189, 133, 0, 0, 9), (.ifCond .eq 6, 136, 0, 139, 0), (.bipush 6, 138, 0, 0, 0), (.ireturn, 139, 0, 0, 0)]
abbrev bX11_kindHere_139 : List xE := [(.aload_n 0, 140, 0, 0, 0), (.bipush 23, 142, 0, 0, 0), (.iconst 5, 143, 0, 0, 0), (.iconst 1, 144, 0, 0, 0), (.bipush 18, 146, 0, 0, 0), (.iconst 0, 147, 0, 0, 0), (.iconst 0, 148, 0, 0, 0), (.iconst 0, 149, 0, 0, 0), (.invokevirtual 189, 152, 0, 0, 9), (.ifCond .eq 8, 155, 0, 160, 0), (.bipush 7, 157, 0, 0, 0), (.goto 4, 160, 0, 161, 0)]
abbrev bX11_kindHere_160 : List xE := [(.iconst (-1), 161, 0, 0, 0)]
abbrev bX11_kindHere_161 : List xE := [(.ireturn, 162, 0, 0, 0)]
abbrev kX11_kindHere : List (Nat × List xE) := [(0, bX11_kindHere_0), (18, bX11_kindHere_18), (39, bX11_kindHere_39), (56, bX11_kindHere_56), (77, bX11_kindHere_77), (98, bX11_kindHere_98), (119, bX11_kindHere_119), (139, bX11_kindHere_139), (160, bX11_kindHere_160), (161, bX11_kindHere_161)]
abbrev lX11_kindHere : List (Nat × Nat × Nat × xS) := [(8, 0, 0, xm_this 8 S_X11_isWord)]
theorem oX11_kindHere_0 {Iv : xI} (hI : xm_good Iv)  : xm_okb Iv RX11 cX11_kindHere false 5 lX11_kindHere bX11_kindHere_0 0 := xo_0 dX11_kindHere_0 rfl trivial (xo_0 dX11_kindHere_1 rfl (xo_bipush (by decide +kernel)) (xo_0 dX11_kindHere_3 rfl trivial (xo_0 dX11_kindHere_4 rfl (xo_bipush (by decide +kernel)) (xo_0 dX11_kindHere_6 rfl trivial (xo_0 dX11_kindHere_7 rfl trivial (xo_0 dX11_kindHere_8 rfl trivial (xo_0 dX11_kindHere_9 rfl trivial (xo_c rfl (cv_X11_isWord hI dX11_kindHere_10 (Or.inl q2161) (by decide)) (xo_0 dX11_kindHere_13 rfl rfl (xo_0 dX11_kindHere_16 rfl trivial (xo_0 dX11_kindHere_17 rfl trivial (xo_n))))))))))))
theorem oX11_kindHere_18 {Iv : xI} (hI : xm_good Iv)  : xm_okb Iv RX11 cX11_kindHere false 5 lX11_kindHere bX11_kindHere_18 18 := xo_0 dX11_kindHere_18 rfl trivial (xo_0 dX11_kindHere_19 rfl (xo_bipush (by decide +kernel)) (xo_0 dX11_kindHere_21 rfl (xo_bipush (by decide +kernel)) (xo_0 dX11_kindHere_23 rfl (xo_bipush (by decide +kernel)) (xo_0 dX11_kindHere_25 rfl (xo_bipush (by decide +kernel)) (xo_0 dX11_kindHere_27 rfl trivial (xo_0 dX11_kindHere_28 rfl (xo_bipush (by decide +kernel)) (xo_0 dX11_kindHere_30 rfl trivial (xo_c rfl (cv_X11_isWord hI dX11_kindHere_31 (Or.inl q2161) (by decide)) (xo_0 dX11_kindHere_34 rfl rfl (xo_0 dX11_kindHere_37 rfl trivial (xo_0 dX11_kindHere_38 rfl trivial (xo_n))))))))))))
theorem oX11_kindHere_39 {Iv : xI} (hI : xm_good Iv)  : xm_okb Iv RX11 cX11_kindHere false 5 lX11_kindHere bX11_kindHere_39 39 := xo_0 dX11_kindHere_39 rfl trivial (xo_0 dX11_kindHere_40 rfl trivial (xo_0 dX11_kindHere_41 rfl trivial (xo_0 dX11_kindHere_42 rfl (xo_bipush (by decide +kernel)) (xo_0 dX11_kindHere_44 rfl trivial (xo_0 dX11_kindHere_45 rfl trivial (xo_0 dX11_kindHere_46 rfl trivial (xo_0 dX11_kindHere_47 rfl trivial (xo_c rfl (cv_X11_isWord hI dX11_kindHere_48 (Or.inl q2161) (by decide)) (xo_0 dX11_kindHere_51 rfl rfl (xo_0 dX11_kindHere_54 rfl trivial (xo_0 dX11_kindHere_55 rfl trivial (xo_n))))))))))))
theorem oX11_kindHere_56 {Iv : xI} (hI : xm_good Iv)  : xm_okb Iv RX11 cX11_kindHere false 5 lX11_kindHere bX11_kindHere_56 56 := xo_0 dX11_kindHere_56 rfl trivial (xo_0 dX11_kindHere_57 rfl (xo_bipush (by decide +kernel)) (xo_0 dX11_kindHere_59 rfl (xo_bipush (by decide +kernel)) (xo_0 dX11_kindHere_61 rfl (xo_bipush (by decide +kernel)) (xo_0 dX11_kindHere_63 rfl (xo_bipush (by decide +kernel)) (xo_0 dX11_kindHere_65 rfl (xo_bipush (by decide +kernel)) (xo_0 dX11_kindHere_67 rfl trivial (xo_0 dX11_kindHere_68 rfl trivial (xo_c rfl (cv_X11_isWord hI dX11_kindHere_69 (Or.inl q2161) (by decide)) (xo_0 dX11_kindHere_72 rfl rfl (xo_0 dX11_kindHere_75 rfl trivial (xo_0 dX11_kindHere_76 rfl trivial (xo_n))))))))))))
theorem oX11_kindHere_77 {Iv : xI} (hI : xm_good Iv)  : xm_okb Iv RX11 cX11_kindHere false 5 lX11_kindHere bX11_kindHere_77 77 := xo_0 dX11_kindHere_77 rfl trivial (xo_0 dX11_kindHere_78 rfl (xo_bipush (by decide +kernel)) (xo_0 dX11_kindHere_80 rfl (xo_bipush (by decide +kernel)) (xo_0 dX11_kindHere_82 rfl trivial (xo_0 dX11_kindHere_83 rfl (xo_bipush (by decide +kernel)) (xo_0 dX11_kindHere_85 rfl (xo_bipush (by decide +kernel)) (xo_0 dX11_kindHere_87 rfl trivial (xo_0 dX11_kindHere_88 rfl (xo_bipush (by decide +kernel)) (xo_c rfl (cv_X11_isWord hI dX11_kindHere_90 (Or.inl q2161) (by decide)) (xo_0 dX11_kindHere_93 rfl rfl (xo_0 dX11_kindHere_96 rfl trivial (xo_0 dX11_kindHere_97 rfl trivial (xo_n))))))))))))
theorem oX11_kindHere_98 {Iv : xI} (hI : xm_good Iv)  : xm_okb Iv RX11 cX11_kindHere false 5 lX11_kindHere bX11_kindHere_98 98 := xo_0 dX11_kindHere_98 rfl trivial (xo_0 dX11_kindHere_99 rfl (xo_bipush (by decide +kernel)) (xo_0 dX11_kindHere_101 rfl (xo_bipush (by decide +kernel)) (xo_0 dX11_kindHere_103 rfl (xo_bipush (by decide +kernel)) (xo_0 dX11_kindHere_105 rfl trivial (xo_0 dX11_kindHere_106 rfl (xo_bipush (by decide +kernel)) (xo_0 dX11_kindHere_108 rfl (xo_bipush (by decide +kernel)) (xo_0 dX11_kindHere_110 rfl trivial (xo_c rfl (cv_X11_isWord hI dX11_kindHere_111 (Or.inl q2161) (by decide)) (xo_0 dX11_kindHere_114 rfl rfl (xo_0 dX11_kindHere_117 rfl trivial (xo_0 dX11_kindHere_118 rfl trivial (xo_n))))))))))))
theorem oX11_kindHere_119 {Iv : xI} (hI : xm_good Iv)  : xm_okb Iv RX11 cX11_kindHere false 5 lX11_kindHere bX11_kindHere_119 119 := xo_0 dX11_kindHere_119 rfl trivial (xo_0 dX11_kindHere_120 rfl (xo_bipush (by decide +kernel)) (xo_0 dX11_kindHere_122 rfl (xo_bipush (by decide +kernel)) (xo_0 dX11_kindHere_124 rfl trivial (xo_0 dX11_kindHere_125 rfl (xo_bipush (by decide +kernel)) (xo_0 dX11_kindHere_127 rfl trivial (xo_0 dX11_kindHere_128 rfl trivial (xo_0 dX11_kindHere_129 rfl trivial (xo_c rfl (cv_X11_isWord hI dX11_kindHere_130 (Or.inl q2161) (by decide)) (xo_0 dX11_kindHere_133 rfl rfl (xo_0 dX11_kindHere_136 rfl (xo_bipush (by decide +kernel)) (xo_0 dX11_kindHere_138 rfl trivial (xo_n))))))))))))
theorem oX11_kindHere_139 {Iv : xI} (hI : xm_good Iv)  : xm_okb Iv RX11 cX11_kindHere false 5 lX11_kindHere bX11_kindHere_139 139 := xo_0 dX11_kindHere_139 rfl trivial (xo_0 dX11_kindHere_140 rfl (xo_bipush (by decide +kernel)) (xo_0 dX11_kindHere_142 rfl trivial (xo_0 dX11_kindHere_143 rfl trivial (xo_0 dX11_kindHere_144 rfl (xo_bipush (by decide +kernel)) (xo_0 dX11_kindHere_146 rfl trivial (xo_0 dX11_kindHere_147 rfl trivial (xo_0 dX11_kindHere_148 rfl trivial (xo_c rfl (cv_X11_isWord hI dX11_kindHere_149 (Or.inl q2161) (by decide)) (xo_0 dX11_kindHere_152 rfl rfl (xo_0 dX11_kindHere_155 rfl (xo_bipush (by decide +kernel)) (xo_0 dX11_kindHere_157 rfl rfl (xo_n))))))))))))
theorem oX11_kindHere_160 {Iv : xI} (hI : xm_good Iv)  : xm_okb Iv RX11 cX11_kindHere false 5 lX11_kindHere bX11_kindHere_160 160 := xo_0 dX11_kindHere_160 rfl trivial (xo_n)
theorem oX11_kindHere_161 {Iv : xI} (hI : xm_good Iv)  : xm_okb Iv RX11 cX11_kindHere false 5 lX11_kindHere bX11_kindHere_161 161 := xo_0 dX11_kindHere_161 rfl trivial (xo_n)
theorem oX11_kindHere {Iv : xI} (hI : xm_good Iv)  : ∀ q ∈ kX11_kindHere, xm_okb Iv RX11 cX11_kindHere false 5 lX11_kindHere q.2 q.1 := by
  intro q hq
  simp only [List.mem_cons, List.not_mem_nil, or_false] at hq
  rcases hq with rfl | rfl | rfl | rfl | rfl | rfl | rfl | rfl | rfl | rfl
  · exact oX11_kindHere_0 hI  
  · exact oX11_kindHere_18 hI  
  · exact oX11_kindHere_39 hI  
  · exact oX11_kindHere_56 hI  
  · exact oX11_kindHere_77 hI  
  · exact oX11_kindHere_98 hI  
  · exact oX11_kindHere_119 hI  
  · exact oX11_kindHere_139 hI  
  · exact oX11_kindHere_160 hI  
  · exact oX11_kindHere_161 hI  
def S_X11_kindHere : xS := tU fun as I Q => as = [.ref 0] ∧ I 0 5 = nI 0 ∧ ∃ f n, t_tx I f n ∧ ∃ k, I 0 4 = nI k ∧ k ≤ n ∧ Q (some (.int (p_kind (p_ls f n (p_bl f n k))))) (xm_u2 I 0 4 (nI (p_bl f n k)))
theorem body_X11_kindHere : xm_Body 1 0 0 0 [] lX11_kindHere kX11_kindHere S_X11_kindHere := by
  intro X avs w Q QX hX0 hS
  have hG := xm_go [] hX0
  have hX := xm_go [] hX0
  clear hX0
  obtain ⟨I, rfl, rfl, h5, f, n, ht, k, h4, hk, hQ⟩ := hS
  obtain ⟨hb1, hb2⟩ := p_bl_in (f := f) hk
  have hbb := p_bl_bl (f := f) hk
  generalize hb : p_bl f n k = b at hb1 hb2 hQ hbb
  have hW : t_pf I (xm_u2 I 0 4 (nI b)) := t_pf.u (Or.inl rfl)
  have htb := hW.tx ht
  have f5 : xm_u2 I 0 4 (nI b) 0 5 = nI 0 := by rw [xm_u2_at, if_neg (by decide)]; exact h5
  refine ⟨rfl, ?_⟩
  repeat' (first
    | ((with_reducible refine @And.intro (vp_in _ _) _ ?_ ?_); (· (first | with_reducible assumption | ((with_reducible refine t_vin ?_); decide) | ((with_reducible refine vp_in_nI ?_ ?_) <;> first | omega | decide) | (simp (disch := omega) only [xl_n, xl_m, nI_dec, nI_sb, nI_add, pk_mul]; (with_reducible refine vp_in_nI ?_ ?_) <;> first | omega | decide))); (conv => whnf))
    | (refine And.intro (by first | with_reducible assumption | exact (show tL _ = _ from rfl) | decide) ?_; (conv => whnf))
    | ((with_reducible refine @And.intro (_ = _) _ ?_ ?_); (· rfl); (conv => whnf))
    | ((with_reducible refine @And.intro (@LE.le Nat _ _ _) _ ?_ ?_); (· (first | exact Nat.zero_le _ | exact Nat.le_of_ble_eq_true rfl | omega)); (conv => whnf))
    | ((with_reducible refine @And.intro (@LT.lt Nat _ _ _) _ ?_ ?_); (· omega); (conv => whnf))
    | ((with_reducible refine @And.intro (∃ _, _ = _) _ ?_ ?_); (· exact ⟨_, rfl⟩); (conv => whnf))
    | ((with_reducible refine @And.intro (_ ∨ _) _ ?_ ?_); (· (first | exact Or.inl rfl | exact Or.inr rfl | exact t_b01 _ | assumption)); (conv => whnf))
    | ((with_reducible refine @And.intro (¬ (_ = _)) _ ?_ ?_); (· first | assumption | (with_reducible assumption)); (conv => whnf))
    | (refine hX _ _ _ _ _ _ ?_; (conv => whnf); fail_if_success show False)
    | (rw [t_si]; (conv => whnf))
    | (refine ⟨_, rfl, ?_⟩; (conv => whnf))
    | (refine ⟨_, _, rfl, ?_⟩; (conv => whnf))
    | (refine ⟨_, _, _, rfl, ?_⟩; (conv => whnf))
    | (refine ⟨_, _, _, _, rfl, ?_⟩; (conv => whnf))
    | (rw [hb]; (conv => whnf))
    | (rw [hbb]; (conv => whnf))
    | (rw [xm_u2_u2]; (conv => whnf))
    | (refine ⟨_,_,_,_,_,_,_,rfl,p_kok_d (by decide +kernel),(by assumption),?_⟩; (conv => whnf))
    | (refine ⟨_, _, (by with_reducible assumption), ?_⟩; (conv => whnf))
    | (refine ⟨_, (by first | with_reducible assumption | exact rfl), ?_⟩; (conv => whnf))
    | (refine And.intro (fun c => ?_) (fun c => ?_) <;> (first | (exact absurd c (by decide +kernel)) | (conv => whnf)))
    | fail)
  all_goals (
    refine t_q hQ (Eq.symm ?_)
    unfold p_kind
    repeat' (first
      | refine Eq.trans (if_neg (p_bf (by assumption))) ?_
      | refine Eq.trans (if_pos (p_bp (by assumption))) ?_)
    decide +kernel)
theorem ct_X11_kindHere {Iv : xI} (hI : xm_good Iv) : xm_Ct Iv yX11_kindHere (ws_ yX11_kindHere cX11_kindHere 1 (some .int)) 5 0 0 S_X11_kindHere := xm_enter (rt := 0) (init := false) (by decide +kernel) rfl (fun h => by cases h) (Or.inl ⟨rfl, rfl⟩) (oX11_kindHere hI) body_X11_kindHere
theorem cv_X11_kindHere {Iv : xI} {own : String} {cc : ByteArray} {fr pc idx : Nat} (hI : xm_good Iv) (hdg : decode cc pc = .ok (.invokevirtual idx, 3)) (hl : xm_ml own idx yX11_kindHere) (hfr : 5 < fr) : xm_CallOK Iv own cc fr pc (pc + 3) 1 0 0 (xm_this 8 S_X11_kindHere) := xm_callV 8 hI (ct_X11_kindHere hI) hdg hl q2159 qs58 q145 q2160 rfl rfl (by decide +kernel) hfr (by decide)
