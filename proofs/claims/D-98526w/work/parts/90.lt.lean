/-! ===== the reference: a statute read ===== -/
set_option maxRecDepth 100000
def p_lawt (f : Nat → Int32) (n : Nat) : pR (List lC) := p_bd (p_sum f n 6 (p_bl f n 0)) fun L k => if p_bl f n k < n then .inl (nI 1, p_bl f n k) else .inr (L, p_bl f n k)
def g_lawd (G : gG) (L : List lC) : gG := ((G.1.1, G.1.2.1, G.1.2.2.1, G.1.2.2.2.1, G.1.2.2.2.2.1, G.1.2.2.2.2.2.1, G.1.2.2.2.2.2.2.1, G.1.2.2.2.2.2.2.2.1, G.1.2.2.2.2.2.2.2.2.1, l_val L), G.2.1,
  (fun n : gN => (n.1, n.2.1, n.2.1, nI 0, n.2.2.2.2.1, n.2.2.2.2.2.1, n.2.2.2.2.2.2.1, n.2.2.2.2.2.2.2.1, 0, (fun _ => nI 0), nM, n.2.2.2.2.2.2.2.2.2.2.2)) G.2.2)
def q_law (G : gG) (m : Int32) : gR := g_ck G (t_in m (nI 0) (nI (gtape G)) && decide (m ≤ nI 150)) (nI 1) 1 (match p_lawt (gfed G) m.toNatClampNeg with
  | .inl (c, q) => (nI 0, c - nI 10, g_flt G q)
  | .inr (L, _) => (nI 0, nI 1, g_lawd G L))
/-- what reading a statute or a book may change -/
def t_rdd (I J : tI) : Prop := (∀ b, b ≠ 0 → ¬ (400 ≤ b ∧ b < 560) → ¬ (620 ≤ b ∧ b < 632) → J b = I b) ∧ ∀ k, k ≠ 1 → k ≠ 2 → k ≠ 4 → k ≠ 5 → k ≠ 6 → k ≠ 7 → k ≠ 8 → k ≠ 28 → J 0 k = I 0 k
theorem t_rdd.tr {I J L : tI} (h : t_rdd I J) (h2 : t_rdd J L) : t_rdd I L := ⟨fun b a c d => (h2.1 b a c d).trans (h.1 b a c d), fun k a b c d e f g i => (h2.2 k a b c d e f g i).trans (h.2 k a b c d e f g i)⟩
theorem t_begun.rd {I J : tI} {n : Nat} (h : t_begun I n J) : t_rdd I J := ⟨fun b a _ _ => h.1 b a, fun k a b c d e f g _ => h.2.1 k a b c d e f g⟩
theorem t_lf.rd {I J : tI} (h : t_lf I J) : t_rdd I J := ⟨fun b a c _ => h.1 b a c, fun k _ _ c d e _ g i => h.2 k c d e g i⟩
theorem t_pf.rd {I J : tI} (h : t_pf I J) : t_rdd I J := h.l.rd
theorem t_ended {Q : Option Value → tI → Prop} {J M : tI} {c : Int32} {q : Nat} (hg : t_good J) (h : t_rdd J M) (h3 : M 0 1 = nI 0) (p5 : M 0 5 = c) (p6 : M 0 6 = nI q) (h01 : J 0 0 = nI 0) (hQ : t_P Q (nI 0, c - nI 10, g_flt (tG J) q)) {W : tI} (hW : W = xm_u2 M 0 3 (M 0 6)) {z : Int32} (hz : z = M 0 5 - nI 10) : Q (some (.int z)) W := by
  rw [p6] at hW
  rw [hz, p5]
  have wo : ∀ b, b ≠ 0 → W b = M b := fun b hb => by rw [hW]; exact funext fun j => xm_u2_ne hb j
  have w0 : ∀ k, k ≠ 3 → W 0 k = M 0 k := fun k hk => by rw [hW, xm_u2_at, if_neg hk]
  have ob : ∀ b, b ≠ 0 → ¬ (400 ≤ b ∧ b < 560) → ¬ (620 ≤ b ∧ b < 632) → W b = J b := fun b hb h1 h2 => (wo b hb).trans (h.1 b hb h1 h2)
  have of : ∀ k, k ≠ 1 → k ≠ 2 → k ≠ 3 → k ≠ 4 → k ≠ 5 → k ≠ 6 → k ≠ 7 → k ≠ 8 → k ≠ 28 → W 0 k = J 0 k := fun k a1 a2 a3 a4 a5 a6 a7 a8 a9 => (w0 k a3).trans (h.2 k a1 a2 a4 a5 a6 a7 a8 a9)
  have o3 : W 0 3 = nI q := by rw [hW, xm_u2_at, if_pos rfl]
  have o1 : W 0 1 = nI 0 := (w0 1 (by decide)).trans h3
  have ss : t_same J W := ⟨fun b hb => ob b (by omega) (by omega) (by omega), of 27 (by decide) (by decide) (by decide) (by decide) (by decide) (by decide) (by decide) (by decide) (by decide), of 41 (by decide) (by decide) (by decide) (by decide) (by decide) (by decide) (by decide) (by decide) (by decide), of 45 (by decide) (by decide) (by decide) (by decide) (by decide) (by decide) (by decide) (by decide) (by decide)⟩
  have e43 : W 0 43 = J 0 43 := of 43 (by decide) (by decide) (by decide) (by decide) (by decide) (by decide) (by decide) (by decide) (by decide)
  have ei : t_im W = t_im J := by unfold t_im; rw [e43]
  have el : t_l W = t_l J := by unfold t_l; rw [ss.2.2.1]
  have et : t_tp W = 0 := t_tp_of o1 (by decide)
  have gW : t_good W := ss.good hg (by rw [ei, e43]; exact hg.2.2.2.2.1) (by rw [et]; exact ⟨o1, by decide⟩)
  have a : ∀ r, (r = 36 ∨ r = 37 ∨ r = 38 ∨ 639 < r) → tA W r = tA J r := fun r hr => tA_eq fun k _ => by rw [ob r (by omega) (by omega) (by omega)]
  have eG : tG W = g_flt (tG J) q := by
    unfold tG g_flt g_setN
    rw [ss.K hg, ss.X hg]
    unfold tN
    have e1' : ∀ k, tA W (640 + k) = tA J (640 + k) := fun k => a _ (by omega)
    have e2' : (fun k i => if k < t_l J ∧ i < 3 then W (600 + k) i else nI 0) = fun k i => if k < t_l J ∧ i < 3 then J (600 + k) i else nI 0 := funext fun k => funext fun i => p_ic fun z => by rw [ob _ (by omega) (by omega) (by have := hg.2.2.2.1.2; omega)]
    rw [ei, el, et, a 36 (by omega), a 37 (by omega), a 38 (by omega), o3, of 42 (by decide) (by decide) (by decide) (by decide) (by decide) (by decide) (by decide) (by decide) (by decide), ob 10 (by decide) (by omega) (by omega), e2']
    simp only [e1', Nat.not_lt_zero, if_false]
  exact hQ W gW eG ((of 0 (by decide) (by decide) (by decide) (by decide) (by decide) (by decide) (by decide) (by decide) (by decide)).trans h01)
theorem t_X_of {I J : tI} (h : ∀ b, (b = 12 ∨ b = 18 ∨ (150 ≤ b ∧ b < 156) ∨ (170 ≤ b ∧ b < 179)) → J b = I b) (ha : t_a I ≤ 6) : tX J = tX I ∧ ∀ a, t_am J a = t_am I a := by
  have e12 := h 12 (by omega)
  have ea : t_a J = t_a I := by unfold t_a; rw [e12]
  have em : ∀ a, t_am J a = t_am I a := fun a => by
    unfold t_am
    rw [ea]
    exact ite_congr rfl (fun q => by rw [h (150 + a) (by omega)]) fun _ => rfl
  refine ⟨?_, em⟩
  have em' : t_am J = t_am I := funext em
  unfold tX
  rw [ea, em', h 18 (by omega)]
  have e1 : (fun h g => if h < 9 ∧ g < 9 then J (170 + h) g else nI 0) = (fun h g => if h < 9 ∧ g < 9 then I (170 + h) g else nI 0) := funext fun a => funext fun g => p_ic fun q => by rw [h (170 + a) (by omega)]
  have e2 : (fun a => if a < t_a I then J (150 + a) 0 else nI 0) = (fun a => if a < t_a I then I (150 + a) 0 else nI 0) := funext fun a => p_ic fun q => by rw [h (150 + a) (by omega)]
  have e3 : (fun a i => if i < t_am I a then (J (150 + a) (2 + i)).toNatClampNeg else 0) = (fun a i => if i < t_am I a then (I (150 + a) (2 + i)).toNatClampNeg else 0) := funext fun a => funext fun i => p_ic fun q => by
    have : a < t_a I := Classical.byContradiction fun hn => by
      unfold t_am at q
      rw [if_neg hn] at q
      omega
    rw [h (150 + a) (by omega)]
  rw [e1, e2, e3]
/-- a statute stands -/
theorem t_lawd {J W : tI} {L : List lC} {d : Nat} (hg : t_good J) (hb : ∀ b, b ≠ 0 → b ≠ 37 → ¬ (400 ≤ b ∧ b < 560) → ¬ (200 ≤ b ∧ b < 360) → ¬ (620 ≤ b ∧ b < 632) → W b = J b) (hf : ∀ k, (k = 0 ∨ k = 41 ∨ k = 43 ∨ k = 45) → W 0 k = J 0 k) (h1 : W 0 1 = nI 0) (h3 : W 0 3 = nM) (h42 : W 0 42 = nI 0) (h27 : W 0 27 = nI L.length) (h37 : ∀ k, k < 107 → W 37 k = J 36 k) (hn : L.length ≤ 160) (ht : l_tr d L) (hc : t_cds W 200 L) : t_good W ∧ tG W = g_lawd (tG J) L := by
  obtain ⟨lok, elaw⟩ := t_lok_of h27 hn ht hc
  obtain ⟨g1, g2, g3, g4, g5, g6, g7, g8⟩ := id hg
  have e12 := hb 12 (by omega) (by omega) (by omega) (by omega) (by omega)
  have ha : t_a J ≤ 6 := g1.2.2.2.2.2
  have eh := t_h_eq e12
  have ep := t_p_eq e12
  have ea : t_a W = t_a J := by unfold t_a; rw [e12]
  have el : t_l W = t_l J := by unfold t_l; rw [hf 41 (by omega)]
  have ei : t_im W = t_im J := by unfold t_im; rw [hf 43 (by omega)]
  have et : t_tp W = 0 := t_tp_of h1 (by decide)
  obtain ⟨eX, em⟩ := t_X_of (I := J) (J := W) (fun b hb' => hb b (by omega) (by omega) (by omega) (by omega) (by omega)) ha
  refine ⟨⟨t_ok_eq g1 e12, lok, (hf 45 (by omega)).trans g3, by rw [el, hf 41 (by omega)]; exact g4, by rw [ei, hf 43 (by omega)]; exact g5, by rw [et]; exact ⟨h1, by decide⟩, fun a q => ?_, fun k q => ?_⟩, ?_⟩
  · rw [ea] at q
    rw [em a, hb (150 + a) (by omega) (by omega) (by omega) (by omega) (by omega), ep]
    exact g7 a q
  · rw [el] at q
    rw [ep, eh, hb (600 + k) (by omega) (by omega) (by omega) (by omega) (by have := g4.2; omega)]
    exact g8 k q
  · have a : ∀ r, (r = 36 ∨ r = 38 ∨ 639 < r) → tA W r = tA J r := fun r hr => tA_eq fun k _ => by rw [hb r (by omega) (by omega) (by omega) (by omega) (by omega)]
    have e37 : tA W 37 = tA J 36 := tA_eq h37
    have eK : tK W = (g_lawd (tG J) L).1 := by
      unfold tK g_lawd
      have k1 : ∀ i, (fun h => if h < t_h J then W (110 + h) i else nI 0) = fun h => if h < t_h J then J (110 + h) i else nI 0 := fun i => funext fun h => p_ic fun q => by rw [hb (110 + h) (by omega) (by omega) (by have := g1.2.1; omega) (by have := g1.2.1; omega) (by have := g1.2.1; omega)]
      have k2 : ∀ i, (fun h => if h < t_p J then W (130 + h) i else nI 0) = fun h => if h < t_p J then J (130 + h) i else nI 0 := fun i => funext fun h => p_ic fun q => by rw [hb (130 + h) (by omega) (by omega) (by have := g1.2.2.2.1; omega) (by have := g1.2.2.2.1; omega) (by have := g1.2.2.2.1; omega)]
      rw [eh, ep, e12, hb 16 (by omega) (by omega) (by omega) (by omega) (by omega), elaw, k1 0, k1 1, k1 2, k2 0, k2 1]
      rfl
    have eN : tN W = (g_lawd (tG J) L).2.2 := by
      unfold tN
      have e1 : ∀ k, tA W (640 + k) = tA J (640 + k) := fun k => a _ (by omega)
      have e2 : (fun k i => if k < t_l J ∧ i < 3 then W (600 + k) i else nI 0) = fun k i => if k < t_l J ∧ i < 3 then J (600 + k) i else nI 0 := funext fun k => funext fun i => p_ic fun z => by rw [hb _ (by omega) (by omega) (by omega) (by omega) (by have := g4.2; omega)]
      rw [ei, el, et, a 36 (by omega), e37, a 38 (by omega), h42, h3, hb 10 (by omega) (by omega) (by omega) (by omega) (by omega)]
      rw [e2]
      simp only [e1, Nat.not_lt_zero, if_false]
      rfl
    show (tK W, tX W, tN W) = _
    rw [eK, eX, eN]
    rfl
abbrev bX11_law_0 : List xE := [(.aload_n 0, 1, 0, 0, 0), (.iconst 0, 2, 0, 0, 0), (.putfield 134, 5, 8, 0, 0), (.aload_n 0, 6, 0, 0, 0), (.iload_n 1, 7, 0, 0, 0), (.iconst 0, 8, 0, 0, 0), (.aload_n 0, 9, 0, 0, 0), (.getfield 137, 12, 8, 1, 0), (.invokestatic 168, 15, 0, 0, 9), (.ifCond .eq 10, 18, 0, 25, 0), (.iload_n 1, 19, 0, 0, 0), (.sipush 150, 22, 0, 0, 0), (.if_icmp .le 7, 25, 0, 29, 0)]
abbrev bX11_law_25 : List xE := [(.iconst 1, 26, 0, 0, 0), (.goto 4, 29, 0, 30, 0)]
abbrev bX11_law_29 : List xE := [(.iconst 0, 30, 0, 0, 0)]
abbrev bX11_law_30 : List xE := [(.iconst 1, 31, 0, 0, 0), (.iconst 1, 32, 0, 0, 0), (.invokevirtual 249, 35, 0, 1, 9), (.ifCond .eq 5, 38, 0, 40, 0), (.iconst 0, 39, 0, 0, 0), (.ireturn, 40, 0, 0, 0)]
abbrev bX11_law_40 : List xE := [(.aload_n 0, 41, 0, 0, 0), (.iload_n 1, 42, 0, 0, 0), (.invokevirtual 253, 45, 0, 2, 9), (.aload_n 0, 46, 0, 0, 0), (.iconst 0, 47, 0, 0, 0), (.putfield 285, 50, 8, 28, 0), (.aload_n 0, 51, 0, 0, 0), (.invokevirtual 307, 54, 0, 3, 9), (.aload_n 0, 55, 0, 0, 0), (.invokevirtual 156, 58, 0, 4, 9), (.aload_n 0, 59, 0, 0, 0), (.getfield 150, 62, 8, 5, 0), (.ifCond .ne 23, 65, 0, 85, 0), (.aload_n 0, 66, 0, 0, 0), (.getfield 143, 69, 8, 4, 0), (.aload_n 0, 70, 0, 0, 0), (.getfield 140, 73, 8, 2, 0), (.if_icmp .ge 12, 76, 0, 85, 0), (.aload_n 0, 77, 0, 0, 0), (.iconst 1, 78, 0, 0, 0), (.aload_n 0, 79, 0, 0, 0), (.getfield 143, 82, 8, 4, 0), (.invokevirtual 163, 85, 0, 5, 9)]
abbrev bX11_law_85 : List xE := [(.aload_n 0, 86, 0, 0, 0), (.getfield 150, 89, 8, 5, 0), (.ifCond .eq 8, 92, 0, 97, 0), (.aload_n 0, 93, 0, 0, 0), (.invokevirtual 259, 96, 0, 6, 9), (.ireturn, 97, 0, 0, 0)]
abbrev bX11_law_97 : List xE := [(.aload_n 0, 98, 0, 0, 0), (.iconst (-1), 99, 0, 0, 0), (.putfield 9, 102, 8, 3, 0), (.aload_n 0, 103, 0, 0, 0), (.aload_n 0, 104, 0, 0, 0), (.getfield 285, 107, 8, 28, 0), (.putfield 270, 110, 8, 27, 0), (.aload_n 0, 111, 0, 0, 0), (.getfield 73, 114, 8, 30, 1), (.aload_n 0, 115, 0, 0, 0), (.getfield 70, 118, 8, 29, 1), (.aload_n 0, 119, 0, 0, 0), (.getfield 270, 122, 8, 27, 0), (.invokestatic 262, 125, 0, 7, 9), (.aload_n 0, 126, 0, 0, 0), (.invokevirtual 279, 129, 0, 8, 9), (.iconst 1, 130, 0, 0, 0), (.ireturn, 131, 0, 0, 0)]
abbrev kX11_law : List (Nat × List xE) := [(0, bX11_law_0), (25, bX11_law_25), (29, bX11_law_29), (30, bX11_law_30), (40, bX11_law_40), (85, bX11_law_85), (97, bX11_law_97)]
abbrev lX11_law : List (Nat × Nat × Nat × xS) := [(3, 0, 0, S_X11_in), (4, 0, 0, xm_this 8 S_X11_bad), (2, 0, 0, xm_this 8 S_X11_starts), (1, 0, 0, xm_this 8 (S_X11_sum 7)), (1, 0, 0, xm_this 8 S_X11_blanks), (3, 0, 0, xm_this 8 S_X11_wrong), (1, 0, 0, xm_this 8 S_X11_ends), (3, 0, 0, S_X11_lays), (1, 0, 0, xm_this 8 S_X11_settles)]
theorem oX11_law_0 {Iv : xI} (hI : xm_good Iv)  : xm_okb Iv RX11 cX11_law false 32 lX11_law bX11_law_0 0 := xo_0 dX11_law_0 rfl trivial (xo_0 dX11_law_1 rfl trivial (xo_0 dX11_law_2 rfl (xm_fp_of (xm_fg_of (Or.inl q1955) (by decide) rfl (by decide) rfl rfl (Or.inl rfl) rfl) (by decide) rfl (Or.inl ⟨rfl, rfl⟩) rfl) (xo_0 dX11_law_5 rfl trivial (xo_0 dX11_law_6 rfl trivial (xo_0 dX11_law_7 rfl trivial (xo_0 dX11_law_8 rfl trivial (xo_0 dX11_law_9 rfl (xm_fg_of (Or.inl q1956) (by decide) rfl (by decide) rfl rfl (Or.inl rfl) rfl) (xo_c rfl (cv_X11_in hI dX11_law_12 (Or.inl q1942) (by decide)) (xo_0 dX11_law_15 rfl rfl (xo_0 dX11_law_18 rfl trivial (xo_0 dX11_law_19 rfl (xo_sipush (by decide +kernel)) (xo_0 dX11_law_22 rfl rfl (xo_n)))))))))))))
theorem oX11_law_25 {Iv : xI} (hI : xm_good Iv)  : xm_okb Iv RX11 cX11_law false 32 lX11_law bX11_law_25 25 := xo_0 dX11_law_25 rfl trivial (xo_0 dX11_law_26 rfl rfl (xo_n))
theorem oX11_law_29 {Iv : xI} (hI : xm_good Iv)  : xm_okb Iv RX11 cX11_law false 32 lX11_law bX11_law_29 29 := xo_0 dX11_law_29 rfl trivial (xo_n)
theorem oX11_law_30 {Iv : xI} (hI : xm_good Iv)  : xm_okb Iv RX11 cX11_law false 32 lX11_law bX11_law_30 30 := xo_0 dX11_law_30 rfl trivial (xo_0 dX11_law_31 rfl trivial (xo_c rfl (cv_X11_bad hI dX11_law_32 (Or.inl q2137) (by decide)) (xo_0 dX11_law_35 rfl rfl (xo_0 dX11_law_38 rfl trivial (xo_0 dX11_law_39 rfl trivial (xo_n))))))
theorem oX11_law_40 {Iv : xI} (hI : xm_good Iv)  : xm_okb Iv RX11 cX11_law false 32 lX11_law bX11_law_40 40 := xo_0 dX11_law_40 rfl trivial (xo_0 dX11_law_41 rfl trivial (xo_c rfl (cv_X11_starts hI dX11_law_42 (Or.inl q2141) (by decide)) (xo_0 dX11_law_45 rfl trivial (xo_0 dX11_law_46 rfl trivial (xo_0 dX11_law_47 rfl (xm_fp_of (xm_fg_of (Or.inl q1983) (by decide) rfl (by decide) rfl rfl (Or.inl rfl) rfl) (by decide) rfl (Or.inl ⟨rfl, rfl⟩) rfl) (xo_0 dX11_law_50 rfl trivial (xo_c rfl (cv_X11_sum hI dX11_law_51 (Or.inl q2244) (by decide)) (xo_0 dX11_law_54 rfl trivial (xo_c rfl (cv_X11_blanks hI dX11_law_55 (Or.inl q2145) (by decide)) (xo_0 dX11_law_58 rfl trivial (xo_0 dX11_law_59 rfl (xm_fg_of (Or.inl q1960) (by decide) rfl (by decide) rfl rfl (Or.inl rfl) rfl) (xo_0 dX11_law_62 rfl rfl (xo_0 dX11_law_65 rfl trivial (xo_0 dX11_law_66 rfl (xm_fg_of (Or.inl q1959) (by decide) rfl (by decide) rfl rfl (Or.inl rfl) rfl) (xo_0 dX11_law_69 rfl trivial (xo_0 dX11_law_70 rfl (xm_fg_of (Or.inl q1957) (by decide) rfl (by decide) rfl rfl (Or.inl rfl) rfl) (xo_0 dX11_law_73 rfl rfl (xo_0 dX11_law_76 rfl trivial (xo_0 dX11_law_77 rfl trivial (xo_0 dX11_law_78 rfl trivial (xo_0 dX11_law_79 rfl (xm_fg_of (Or.inl q1959) (by decide) rfl (by decide) rfl rfl (Or.inl rfl) rfl) (xo_c rfl (cv_X11_wrong hI dX11_law_82 (Or.inl q2178) (by decide)) (xo_n)))))))))))))))))))))))
theorem oX11_law_85 {Iv : xI} (hI : xm_good Iv)  : xm_okb Iv RX11 cX11_law false 32 lX11_law bX11_law_85 85 := xo_0 dX11_law_85 rfl trivial (xo_0 dX11_law_86 rfl (xm_fg_of (Or.inl q1960) (by decide) rfl (by decide) rfl rfl (Or.inl rfl) rfl) (xo_0 dX11_law_89 rfl rfl (xo_0 dX11_law_92 rfl trivial (xo_c rfl (cv_X11_ends hI dX11_law_93 (Or.inl q2236) (by decide)) (xo_0 dX11_law_96 rfl trivial (xo_n))))))
theorem oX11_law_97 {Iv : xI} (hI : xm_good Iv)  : xm_okb Iv RX11 cX11_law false 32 lX11_law bX11_law_97 97 := xo_0 dX11_law_97 rfl trivial (xo_0 dX11_law_98 rfl trivial (xo_0 dX11_law_99 rfl (xm_fp_of (xm_fg_of (Or.inl q1958) (by decide) rfl (by decide) rfl rfl (Or.inl rfl) rfl) (by decide) rfl (Or.inl ⟨rfl, rfl⟩) rfl) (xo_0 dX11_law_102 rfl trivial (xo_0 dX11_law_103 rfl trivial (xo_0 dX11_law_104 rfl (xm_fg_of (Or.inl q1983) (by decide) rfl (by decide) rfl rfl (Or.inl rfl) rfl) (xo_0 dX11_law_107 rfl (xm_fp_of (xm_fg_of (Or.inl q1982) (by decide) rfl (by decide) rfl rfl (Or.inl rfl) rfl) (by decide) rfl (Or.inl ⟨rfl, rfl⟩) rfl) (xo_0 dX11_law_110 rfl trivial (xo_1 dX11_law_111 rfl (xm_fg_of (Or.inl q1985) (by decide) rfl (by decide) rfl rfl (Or.inl rfl) rfl) (xo_0 dX11_law_114 rfl trivial (xo_1 dX11_law_115 rfl (xm_fg_of (Or.inl q1984) (by decide) rfl (by decide) rfl rfl (Or.inl rfl) rfl) (xo_0 dX11_law_118 rfl trivial (xo_0 dX11_law_119 rfl (xm_fg_of (Or.inl q1982) (by decide) rfl (by decide) rfl rfl (Or.inl rfl) rfl) (xo_c rfl (cv_X11_lays hI dX11_law_122 (Or.inl q1939) (by decide)) (xo_0 dX11_law_125 rfl trivial (xo_c rfl (cv_X11_settles hI dX11_law_126 (Or.inl q1951) (by decide)) (xo_0 dX11_law_129 rfl trivial (xo_0 dX11_law_130 rfl trivial (xo_n))))))))))))))))))
theorem oX11_law {Iv : xI} (hI : xm_good Iv)  : ∀ q ∈ kX11_law, xm_okb Iv RX11 cX11_law false 32 lX11_law q.2 q.1 := by
  intro q hq
  simp only [List.mem_cons, List.not_mem_nil, or_false] at hq
  rcases hq with rfl | rfl | rfl | rfl | rfl | rfl | rfl
  · exact oX11_law_0 hI  
  · exact oX11_law_25 hI  
  · exact oX11_law_29 hI  
  · exact oX11_law_30 hI  
  · exact oX11_law_40 hI  
  · exact oX11_law_85 hI  
  · exact oX11_law_97 hI  
def S_X11_law : xS := tU fun as I Q => ∃ m, as = [.ref 0, .int m] ∧ t_good I ∧ t_P Q (q_law (tG I) m)
theorem body_X11_law : xm_Body 2 0 0 0 [] lX11_law kX11_law S_X11_law := by
  intro X avs w Q QX hX0 hS
  have hG := xm_go [] hX0
  have hX := xm_go [85] hX0
  clear hX0
  obtain ⟨I, rfl, m, rfl, hg, hQ⟩ := hS
  refine ⟨rfl, ?_⟩
  repeat' (first
    | ((with_reducible refine @And.intro (vp_in _ _) _ ?_ ?_); (· (first | with_reducible assumption | ((with_reducible refine t_vin ?_); decide) | ((with_reducible refine vp_in_nI ?_ ?_) <;> first | omega | decide) | (simp (disch := omega) only [xl_n, xl_m, nI_dec, nI_sb, nI_add, pk_mul]; (with_reducible refine vp_in_nI ?_ ?_) <;> first | omega | decide))); (conv => whnf))
    | (refine And.intro (by first | with_reducible assumption | exact (show tL _ = _ from rfl) | decide) ?_; (conv => whnf))
    | ((with_reducible refine @And.intro (_ = _) _ ?_ ?_); (· rfl); (conv => whnf))
    | ((with_reducible refine @And.intro (@LE.le Nat _ _ _) _ ?_ ?_); (· (first | exact Nat.zero_le _ | exact Nat.le_of_ble_eq_true rfl | omega)); (conv => whnf))
    | ((with_reducible refine @And.intro (@LT.lt Nat _ _ _) _ ?_ ?_); (· omega); (conv => whnf))
    | ((with_reducible refine @And.intro (∃ _, _ = _) _ ?_ ?_); (· exact ⟨_, rfl⟩); (conv => whnf))
    | ((with_reducible refine @And.intro (_ ∨ _) _ ?_ ?_); (· (first | exact Or.inl rfl | exact Or.inr rfl | exact t_b01 _ | assumption)); (conv => whnf))
    | ((with_reducible refine @And.intro (¬ (_ = _)) _ ?_ ?_); (· first | assumption | (with_reducible assumption)); (conv => whnf))
    | (refine hX _ _ _ _ _ _ ?_; (conv => whnf); fail_if_success show False)
    | fail)
  rw [t_si]
  obtain ⟨J, hJ, hg1, hG1, h01⟩ := t_pub hg
  rw [← hJ]
  rw [← hG1] at hQ
  clear hJ hG1 hg I
  have hg := hg1
  have hok := hg.1
  have hl := hg.2.1
  have h8 := hok.2.2.2.1
  have h9 := hok.2.1
  (conv => whnf)
  obtain ⟨htp, h600⟩ := hg.2.2.2.2.2.1
  have egt : gtape (tG J) = t_tp J := rfl
  rw [q_law, egt, ← htp] at hQ
  have e150 : Int32.ofInt 150 = nI 150 := by decide +kernel
  cases hin : t_in m (nI 0) (J 0 1) with
  | false =>
    have f1 : (t_in m (nI 0) (J 0 1) && decide (m ≤ nI 150)) = false := by rw [hin]; rfl
    have hin' : t_in m (Int32.ofInt 0) ((tW J).2.1 0 1) = false := by rw [xl_n.1]; exact hin
    have h1 : ¬ Int32.ofInt 1 = 0 := by decide +kernel
    have ht1 : t_b true = Int32.ofInt 1 := by decide +kernel
    clear hin
    repeat' (first
      | ((with_reducible refine @And.intro (vp_in _ _) _ ?_ ?_); (· (first | with_reducible assumption | ((with_reducible refine t_vin ?_); decide) | ((with_reducible refine vp_in_nI ?_ ?_) <;> first | omega | decide) | (simp (disch := omega) only [xl_n, xl_m, nI_dec, nI_sb, nI_add, pk_mul]; (with_reducible refine vp_in_nI ?_ ?_) <;> first | omega | decide))); (conv => whnf))
      | (refine And.intro (by first | with_reducible assumption | exact (show tL _ = _ from rfl) | decide) ?_; (conv => whnf))
      | ((with_reducible refine @And.intro (_ = _) _ ?_ ?_); (· rfl); (conv => whnf))
      | ((with_reducible refine @And.intro (@LE.le Nat _ _ _) _ ?_ ?_); (· (first | exact Nat.zero_le _ | exact Nat.le_of_ble_eq_true rfl | omega)); (conv => whnf))
      | ((with_reducible refine @And.intro (@LT.lt Nat _ _ _) _ ?_ ?_); (· omega); (conv => whnf))
      | ((with_reducible refine @And.intro (∃ _, _ = _) _ ?_ ?_); (· exact ⟨_, rfl⟩); (conv => whnf))
      | ((with_reducible refine @And.intro (_ ∨ _) _ ?_ ?_); (· (first | exact Or.inl rfl | exact Or.inr rfl | exact t_b01 _ | assumption)); (conv => whnf))
      | ((with_reducible refine @And.intro (¬ (_ = _)) _ ?_ ?_); (· first | assumption | (with_reducible assumption)); (conv => whnf))
      | (refine hX _ _ _ _ _ _ ?_; (conv => whnf); fail_if_success show False)
      | (rw [t_si]; (conv => whnf))
      | (refine ⟨_, rfl, ?_⟩; (conv => whnf))
      | (refine ⟨_, _, rfl, ?_⟩; (conv => whnf))
      | (refine ⟨_, _, _, rfl, ?_⟩; (conv => whnf))
      | (refine ⟨_, _, _, _, rfl, ?_⟩; (conv => whnf))
      | (rw [hin']; (conv => whnf))
      | (refine And.intro (fun c => ?_) (fun c => ?_) <;> (first | (exact absurd c (by decide +kernel)) | (exact absurd c (by assumption)) | (exact False.elim (c (by assumption))) | (conv => whnf)))
      | fail)
    exact t_ref' hQ hg h01 (by simp [f1]) (by decide) rfl rfl
  | true =>
    have hin' : t_in m (Int32.ofInt 0) ((tW J).2.1 0 1) = true := by rw [xl_n.1]; exact hin
    by_cases h150 : m ≤ nI 150
    · rw [hin, decide_eq_true h150, Bool.and_true, g_ck_t] at hQ
      obtain ⟨n, rfl, hn⟩ : ∃ n, m = nI n ∧ n ≤ t_tp J := by
        rw [htp] at hin
        unfold t_in at hin
        rw [Bool.and_eq_true, decide_eq_true_eq, decide_eq_true_eq] at hin
        obtain ⟨j, hj, rfl⟩ := nI_of2 (n := t_tp J) (nI_toInt (by omega)) (Int32.not_lt.mpr (by rw [← nI_0]; exact hin.1)) hin.2
        exact ⟨j, rfl, hj⟩
      have hn150 : n ≤ 150 := by rw [nI_leI (by omega) (by omega)] at h150; exact h150
      rw [nI_clamp (by omega)] at hQ
      obtain ⟨R, hR⟩ : ∃ R, R = p_lawt (gfed (tG J)) n := ⟨_, rfl⟩
      rw [← hR] at hQ
      have hf : ∀ k, k < n → gfed (tG J) k = J 9 k := fun k hk => if_pos (by omega)
      generalize gfed (tG J) = f at hR hf
      have end1 : ∀ M e, t_rdd J M → M 0 1 = nI 0 → t_ps M n (.inl e) → .inl e = R → X 85 [some (.ref 0), some (.int (nI n))] [] (tW M) 0 0 := by
        intro M e hM h1 hp he
        obtain ⟨c0, q⟩ := e
        subst he
        obtain ⟨p5, pn, p6, -⟩ := hp
        have h5 : ¬ M 0 5 = 0 := by rw [p5, ← nI_0]; exact pn
        have fin : ∀ W z, W = xm_u2 M 0 3 (M 0 6) → z = M 0 5 - nI 10 → Q (some (.int z)) (tW W) := fun W z hW hz => t_ended (Q := fun v I => Q v (tW I)) hg hM h1 p5 p6 h01 hQ hW hz
        refine hG _ _ _ _ _ _ ?_
        (conv => whnf)
        repeat' (first
          | ((with_reducible refine @And.intro (vp_in _ _) _ ?_ ?_); (· (first | with_reducible assumption | ((with_reducible refine t_vin ?_); decide) | ((with_reducible refine vp_in_nI ?_ ?_) <;> first | omega | decide) | (simp (disch := omega) only [xl_n, xl_m, nI_dec, nI_sb, nI_add, pk_mul]; (with_reducible refine vp_in_nI ?_ ?_) <;> first | omega | decide))); (conv => whnf))
          | (refine And.intro (by first | with_reducible assumption | exact (show tL _ = _ from rfl) | decide) ?_; (conv => whnf))
          | ((with_reducible refine @And.intro (_ = _) _ ?_ ?_); (· rfl); (conv => whnf))
          | ((with_reducible refine @And.intro (@LE.le Nat _ _ _) _ ?_ ?_); (· (first | exact Nat.zero_le _ | exact Nat.le_of_ble_eq_true rfl | omega)); (conv => whnf))
          | ((with_reducible refine @And.intro (@LT.lt Nat _ _ _) _ ?_ ?_); (· omega); (conv => whnf))
          | ((with_reducible refine @And.intro (∃ _, _ = _) _ ?_ ?_); (· exact ⟨_, rfl⟩); (conv => whnf))
          | ((with_reducible refine @And.intro (_ ∨ _) _ ?_ ?_); (· (first | exact Or.inl rfl | exact Or.inr rfl | exact t_b01 _ | assumption)); (conv => whnf))
          | ((with_reducible refine @And.intro (¬ (_ = _)) _ ?_ ?_); (· first | assumption | (with_reducible assumption)); (conv => whnf))
          | (refine hX _ _ _ _ _ _ ?_; (conv => whnf); fail_if_success show False)
          | (rw [t_si]; (conv => whnf))
          | (refine ⟨_, rfl, ?_⟩; (conv => whnf))
          | (refine ⟨_, _, rfl, ?_⟩; (conv => whnf))
          | (refine ⟨_, _, _, rfl, ?_⟩; (conv => whnf))
          | (refine ⟨_, _, _, _, rfl, ?_⟩; (conv => whnf))
          | (refine And.intro (fun c => ?_) (fun c => ?_) <;> (first | (exact absurd c (by decide +kernel)) | (exact absurd c (by assumption)) | (exact False.elim (c (by assumption))) | (conv => whnf)))
          | fail)
        exact fin _ _ rfl rfl
      have end2 : ∀ M L k, t_rdd J M → M 0 1 = nI 0 → t_tx M f n → t_lp J M n 6 0 (.inr (L, k)) → ¬ k < n → (∃ e, l_tr e L) → .inr (L, k) = R → X 85 [some (.ref 0), some (.int (nI n))] [] (tW M) 0 0 := by
        intro M L k hM h1 htM hlp hkn ⟨e, htr⟩ he
        subst he
        obtain ⟨⟨p5, p4, pk⟩, a2, a3, a4, a5, a6⟩ := hlp
        have h5 : M 0 5 = 0 := p5.trans nI_0
        have hL : L.length ≤ 150 := by omega
        have a3 : M 0 28 = nI L.length := by rw [a3, Nat.zero_add]
        have hQ : ∀ W, t_good W → tG W = g_lawd (tG J) L → W 0 0 = nI 0 → Q (some (.int (nI 1))) (tW W) := fun W w1 w2 w3 => hQ W w1 w2 w3
        have e28 : (tW (xm_u2 M 0 3 (Int32.ofInt (-1)))).2.1 0 28 = nI L.length := by
          show xm_u2 M 0 3 (Int32.ofInt (-1)) 0 28 = _
          rw [xm_u2_at, if_neg (by decide)]
          exact a3
        have e27 : (tW (xm_u2 (xm_u2 M 0 3 (Int32.ofInt (-1))) 0 27 (nI L.length))).2.1 0 27 = nI L.length := by
          show xm_u2 (xm_u2 M 0 3 (Int32.ofInt (-1))) 0 27 (nI L.length) 0 27 = _
          rw [xm_u2_at, if_pos rfl]
        have fin : ∀ W4 W5, t_z (fun b => 200 ≤ b ∧ b < 200 + L.length) (xm_u2 (xm_u2 M 0 3 (Int32.ofInt (-1))) 0 27 (nI L.length)) (fun b i => xm_u2 (xm_u2 M 0 3 (Int32.ofInt (-1))) 0 27 (nI L.length) (400 + (b - 200)) i) (fun b i => (200 ≤ b ∧ b < 200 + L.length) ∧ i < 2) W4 → (∀ k, k < 107 → W5 37 k = W4 36 k) → (∀ b, b ≠ 37 → b ≠ 0 → W5 b = W4 b) → (∀ k, k ≠ 42 → W5 0 k = W4 0 k) → W5 0 42 = nI 0 → Q (some (.int (nI 1))) (tW W5) := by
          intro W4 W5 hW4 s1 s2 s3 s4
          have w4 : ∀ b, b ≠ 0 → ¬ (200 ≤ b ∧ b < 360) → W4 b = M b := fun b hb0 hb => (hW4.1 b (by omega)).trans (funext fun j => by rw [xm_u2_ne hb0, xm_u2_ne hb0])
          have w40 : ∀ k, W4 0 k = xm_u2 (xm_u2 M 0 3 (Int32.ofInt (-1))) 0 27 (nI L.length) 0 k := fun k => by rw [hW4.1 0 (by omega)]
          have w40' : ∀ k, k ≠ 3 → k ≠ 27 → W4 0 k = M 0 k := fun k q1 q2 => by rw [w40, xm_u2_at, if_neg q2, xm_u2_at, if_neg q1]
          have rJ : ∀ b, b ≠ 0 → b ≠ 37 → ¬ (400 ≤ b ∧ b < 560) → ¬ (200 ≤ b ∧ b < 360) → ¬ (620 ≤ b ∧ b < 632) → W5 b = J b := fun b q0 q1 q2 q3 q4 => by
            rw [s2 b q1 q0, w4 b q0 q3]
            exact hM.1 b q0 q2 q4
          obtain ⟨gW, eG⟩ := t_lawd (W := W5) (L := L) hg rJ (fun k hk => (s3 k (by omega)).trans ((w40' k (by omega) (by omega)).trans (hM.2 k (by omega) (by omega) (by omega) (by omega) (by omega) (by omega) (by omega) (by omega)))) ((s3 1 (by decide)).trans ((w40' 1 (by decide) (by decide)).trans h1)) ((s3 3 (by decide)).trans ((w40 3).trans (by rw [xm_u2_at, if_neg (by decide), xm_u2_at, if_pos rfl]; exact xl_m))) s4 ((s3 27 (by decide)).trans ((w40 27).trans (by rw [xm_u2_at, if_pos rfl]))) (fun k hk => (s1 k hk).trans (by rw [w4 36 (by decide) (by omega)]; rw [hM.1 36 (by decide) (by omega) (by omega)])) (by omega) htr (fun j x hx => by
            have hj := (List.getElem?_eq_some_iff.mp hx).1
            have := a6 j x hx
            have e : ∀ i, i < 2 → W5 (200 + j) i = M (400 + 0 + j) i := fun i hi => by
              rw [s2 (200 + j) (by omega) (by omega), hW4.2 (200 + j) i ⟨by omega, hi⟩]
              show xm_u2 (xm_u2 M 0 3 (Int32.ofInt (-1))) 0 27 (nI L.length) (400 + (200 + j - 200)) i = _
              rw [show 400 + (200 + j - 200) = 400 + 0 + j by omega, xm_u2_ne (by omega), xm_u2_ne (by omega)]
            rw [e 0 (by decide), e 1 (by decide)]
            exact this)
          exact hQ W5 gW eG ((s3 0 (by decide)).trans ((w40' 0 (by decide) (by decide)).trans ((hM.2 0 (by decide) (by decide) (by decide) (by decide) (by decide) (by decide) (by decide) (by decide)).trans h01)))
        refine hG _ _ _ _ _ _ ?_
        (conv => whnf)
        repeat' (first
          | (refine ⟨30, 29, L.length, congrArg (fun x => [Value.ref 30, Value.ref 29, Value.int x]) e27, 400, 200, 2, 160, 160, (by omega), by decide, (by omega), by decide, by decide, rfl, rfl, fun k hk => ⟨rfl, t_l400 (I := M) (by omega), rfl, t_l200 (I := M) (by omega)⟩, by omega, ?_⟩; (conv => whnf))
          | ((with_reducible refine @And.intro (vp_in _ _) _ ?_ ?_); (· (first | with_reducible assumption | ((with_reducible refine t_vin ?_); decide) | ((with_reducible refine vp_in_nI ?_ ?_) <;> first | omega | decide) | (simp (disch := omega) only [xl_n, xl_m, nI_dec, nI_sb, nI_add, pk_mul]; (with_reducible refine vp_in_nI ?_ ?_) <;> first | omega | decide))); (conv => whnf))
          | (refine And.intro (by first | with_reducible assumption | exact (show tL _ = _ from rfl) | decide) ?_; (conv => whnf))
          | ((with_reducible refine @And.intro (_ = _) _ ?_ ?_); (· rfl); (conv => whnf))
          | ((with_reducible refine @And.intro (@LE.le Nat _ _ _) _ ?_ ?_); (· (first | exact Nat.zero_le _ | exact Nat.le_of_ble_eq_true rfl | omega)); (conv => whnf))
          | ((with_reducible refine @And.intro (@LT.lt Nat _ _ _) _ ?_ ?_); (· omega); (conv => whnf))
          | ((with_reducible refine @And.intro (∃ _, _ = _) _ ?_ ?_); (· exact ⟨_, rfl⟩); (conv => whnf))
          | ((with_reducible refine @And.intro (_ ∨ _) _ ?_ ?_); (· (first | exact Or.inl rfl | exact Or.inr rfl | exact t_b01 _ | assumption)); (conv => whnf))
          | ((with_reducible refine @And.intro (¬ (_ = _)) _ ?_ ?_); (· first | assumption | (with_reducible assumption)); (conv => whnf))
          | (refine hX _ _ _ _ _ _ ?_; (conv => whnf); fail_if_success show False)
          | (rw [t_si]; (conv => whnf))
          | (refine ⟨_, rfl, ?_⟩; (conv => whnf))
          | (refine ⟨_, _, rfl, ?_⟩; (conv => whnf))
          | (refine ⟨_, _, _, rfl, ?_⟩; (conv => whnf))
          | (refine ⟨_, _, _, _, rfl, ?_⟩; (conv => whnf))
          | (rw [e28]; (conv => whnf))
          | (refine And.intro (fun c => ?_) (fun c => ?_) <;> (first | (exact absurd c (by decide +kernel)) | (exact absurd c (by assumption)) | (exact False.elim (c (by assumption))) | (conv => whnf)))
          | fail)
        intro W4 hW4
        (conv => whnf)
        repeat' (first
          | ((with_reducible refine @And.intro (vp_in _ _) _ ?_ ?_); (· (first | with_reducible assumption | ((with_reducible refine t_vin ?_); decide) | ((with_reducible refine vp_in_nI ?_ ?_) <;> first | omega | decide) | (simp (disch := omega) only [xl_n, xl_m, nI_dec, nI_sb, nI_add, pk_mul]; (with_reducible refine vp_in_nI ?_ ?_) <;> first | omega | decide))); (conv => whnf))
          | (refine And.intro (by first | with_reducible assumption | exact (show tL _ = _ from rfl) | decide) ?_; (conv => whnf))
          | ((with_reducible refine @And.intro (_ = _) _ ?_ ?_); (· rfl); (conv => whnf))
          | ((with_reducible refine @And.intro (@LE.le Nat _ _ _) _ ?_ ?_); (· (first | exact Nat.zero_le _ | exact Nat.le_of_ble_eq_true rfl | omega)); (conv => whnf))
          | ((with_reducible refine @And.intro (@LT.lt Nat _ _ _) _ ?_ ?_); (· omega); (conv => whnf))
          | ((with_reducible refine @And.intro (∃ _, _ = _) _ ?_ ?_); (· exact ⟨_, rfl⟩); (conv => whnf))
          | ((with_reducible refine @And.intro (_ ∨ _) _ ?_ ?_); (· (first | exact Or.inl rfl | exact Or.inr rfl | exact t_b01 _ | assumption)); (conv => whnf))
          | ((with_reducible refine @And.intro (¬ (_ = _)) _ ?_ ?_); (· first | assumption | (with_reducible assumption)); (conv => whnf))
          | (refine hX _ _ _ _ _ _ ?_; (conv => whnf); fail_if_success show False)
          | (rw [t_si]; (conv => whnf))
          | (refine ⟨_, rfl, ?_⟩; (conv => whnf))
          | (refine ⟨_, _, rfl, ?_⟩; (conv => whnf))
          | (refine ⟨_, _, _, rfl, ?_⟩; (conv => whnf))
          | (refine ⟨_, _, _, _, rfl, ?_⟩; (conv => whnf))
          | (refine And.intro (fun c => ?_) (fun c => ?_) <;> (first | (exact absurd c (by decide +kernel)) | (exact absurd c (by assumption)) | (exact False.elim (c (by assumption))) | (conv => whnf)))
          | fail)
        intro W5 s1 s2 s3 s4
        (conv => whnf)
        repeat' (first
          | ((with_reducible refine @And.intro (vp_in _ _) _ ?_ ?_); (· (first | with_reducible assumption | ((with_reducible refine t_vin ?_); decide) | ((with_reducible refine vp_in_nI ?_ ?_) <;> first | omega | decide) | (simp (disch := omega) only [xl_n, xl_m, nI_dec, nI_sb, nI_add, pk_mul]; (with_reducible refine vp_in_nI ?_ ?_) <;> first | omega | decide))); (conv => whnf))
          | (refine And.intro (by first | with_reducible assumption | exact (show tL _ = _ from rfl) | decide) ?_; (conv => whnf))
          | ((with_reducible refine @And.intro (_ = _) _ ?_ ?_); (· rfl); (conv => whnf))
          | ((with_reducible refine @And.intro (@LE.le Nat _ _ _) _ ?_ ?_); (· (first | exact Nat.zero_le _ | exact Nat.le_of_ble_eq_true rfl | omega)); (conv => whnf))
          | ((with_reducible refine @And.intro (@LT.lt Nat _ _ _) _ ?_ ?_); (· omega); (conv => whnf))
          | ((with_reducible refine @And.intro (∃ _, _ = _) _ ?_ ?_); (· exact ⟨_, rfl⟩); (conv => whnf))
          | ((with_reducible refine @And.intro (_ ∨ _) _ ?_ ?_); (· (first | exact Or.inl rfl | exact Or.inr rfl | exact t_b01 _ | assumption)); (conv => whnf))
          | ((with_reducible refine @And.intro (¬ (_ = _)) _ ?_ ?_); (· first | assumption | (with_reducible assumption)); (conv => whnf))
          | (refine hX _ _ _ _ _ _ ?_; (conv => whnf); fail_if_success show False)
          | (rw [t_si]; (conv => whnf))
          | (refine ⟨_, rfl, ?_⟩; (conv => whnf))
          | (refine ⟨_, _, rfl, ?_⟩; (conv => whnf))
          | (refine ⟨_, _, _, rfl, ?_⟩; (conv => whnf))
          | (refine ⟨_, _, _, _, rfl, ?_⟩; (conv => whnf))
          | (refine And.intro (fun c => ?_) (fun c => ?_) <;> (first | (exact absurd c (by decide +kernel)) | (exact absurd c (by assumption)) | (exact False.elim (c (by assumption))) | (conv => whnf)))
          | fail)
        exact fin W4 W5 hW4 s1 s2 s3 s4
      have h150' : nI n ≤ Int32.ofInt 150 := by rw [e150]; exact h150
      repeat' (first
        | ((with_reducible refine @And.intro (vp_in _ _) _ ?_ ?_); (· (first | with_reducible assumption | ((with_reducible refine t_vin ?_); decide) | ((with_reducible refine vp_in_nI ?_ ?_) <;> first | omega | decide) | (simp (disch := omega) only [xl_n, xl_m, nI_dec, nI_sb, nI_add, pk_mul]; (with_reducible refine vp_in_nI ?_ ?_) <;> first | omega | decide))); (conv => whnf))
        | (refine And.intro (by first | with_reducible assumption | exact (show tL _ = _ from rfl) | decide) ?_; (conv => whnf))
        | ((with_reducible refine @And.intro (_ = _) _ ?_ ?_); (· rfl); (conv => whnf))
        | ((with_reducible refine @And.intro (@LE.le Nat _ _ _) _ ?_ ?_); (· (first | exact Nat.zero_le _ | exact Nat.le_of_ble_eq_true rfl | omega)); (conv => whnf))
        | ((with_reducible refine @And.intro (@LT.lt Nat _ _ _) _ ?_ ?_); (· omega); (conv => whnf))
        | ((with_reducible refine @And.intro (∃ _, _ = _) _ ?_ ?_); (· exact ⟨_, rfl⟩); (conv => whnf))
        | ((with_reducible refine @And.intro (_ ∨ _) _ ?_ ?_); (· (first | exact Or.inl rfl | exact Or.inr rfl | exact t_b01 _ | assumption)); (conv => whnf))
        | ((with_reducible refine @And.intro (¬ (_ = _)) _ ?_ ?_); (· first | assumption | (with_reducible assumption)); (conv => whnf))
        | (refine hX _ _ _ _ _ _ ?_; (conv => whnf); fail_if_success show False)
        | (rw [t_si]; (conv => whnf))
        | (refine ⟨_, rfl, ?_⟩; (conv => whnf))
        | (refine ⟨_, _, rfl, ?_⟩; (conv => whnf))
        | (refine ⟨_, _, _, rfl, ?_⟩; (conv => whnf))
        | (refine ⟨_, _, _, _, rfl, ?_⟩; (conv => whnf))
        | (rw [hin']; (conv => whnf))
        | (refine And.intro (fun c => ?_) (fun c => ?_) <;> (first | (exact absurd c (by decide +kernel)) | (exact absurd c (by assumption)) | (exact False.elim (c (by assumption))) | (conv => whnf)))
        | fail)
      intro J1 hJ1
      (conv => whnf)
      obtain ⟨b1, b2, b3, b4, b5, b6, b7, b8, b9⟩ := id hJ1
      have ek0 : p_bl (J 9) n 0 = p_bl f n 0 := p_sk_eq fun k hk => (hf k hk).symm
      rw [ek0] at b5
      have ht1 : t_tx (xm_u2 J1 0 28 (nI 0)) f n := ⟨by rw [xm_u2_at, if_neg (by decide)]; exact b4, by omega, fun k hk => by rw [xm_u2_ne (by decide), b1 9 (by decide), hf k hk]⟩
      have hk0 : p_bl f n 0 ≤ n := (p_bl_in (Nat.zero_le _)).2
      have in1 : t_lin (xm_u2 J1 0 28 (nI 0)) f n 6 0 (.inr (p_bl f n 0)) := ⟨ht1, hn150, by decide, ⟨by rw [xm_u2_at, if_neg (by decide)]; exact b6, by rw [xm_u2_at, if_neg (by decide)]; exact b5, hk0⟩, fun k hk => ⟨by rw [xm_u2_at, if_neg (by decide)]; exact b9, by rw [xm_u2_at, if_pos rfl], by omega⟩⟩
      have rd1 : t_rdd J (xm_u2 J1 0 28 (nI 0)) := hJ1.rd.tr (t_lf.u0 (by omega)).rd
      have f1 : xm_u2 J1 0 28 (nI 0) 0 1 = nI 0 := by rw [xm_u2_at, if_neg (by decide)]; exact b3
      have x0 : Int32.ofInt 0 = nI 0 := xl_n.1
      repeat' (first
        | (refine ⟨_,_,_,_,(by assumption),?_⟩; (conv => whnf))
        | ((with_reducible refine @And.intro (vp_in _ _) _ ?_ ?_); (· (first | with_reducible assumption | ((with_reducible refine t_vin ?_); decide) | ((with_reducible refine vp_in_nI ?_ ?_) <;> first | omega | decide) | (simp (disch := omega) only [xl_n, xl_m, nI_dec, nI_sb, nI_add, pk_mul]; (with_reducible refine vp_in_nI ?_ ?_) <;> first | omega | decide))); (conv => whnf))
        | (refine And.intro (by first | with_reducible assumption | exact (show tL _ = _ from rfl) | decide) ?_; (conv => whnf))
        | ((with_reducible refine @And.intro (_ = _) _ ?_ ?_); (· rfl); (conv => whnf))
        | ((with_reducible refine @And.intro (@LE.le Nat _ _ _) _ ?_ ?_); (· (first | exact Nat.zero_le _ | exact Nat.le_of_ble_eq_true rfl | omega)); (conv => whnf))
        | ((with_reducible refine @And.intro (@LT.lt Nat _ _ _) _ ?_ ?_); (· omega); (conv => whnf))
        | ((with_reducible refine @And.intro (∃ _, _ = _) _ ?_ ?_); (· exact ⟨_, rfl⟩); (conv => whnf))
        | ((with_reducible refine @And.intro (_ ∨ _) _ ?_ ?_); (· (first | exact Or.inl rfl | exact Or.inr rfl | exact t_b01 _ | assumption)); (conv => whnf))
        | ((with_reducible refine @And.intro (¬ (_ = _)) _ ?_ ?_); (· first | assumption | (with_reducible assumption)); (conv => whnf))
        | (refine hX _ _ _ _ _ _ ?_; (conv => whnf); fail_if_success show False)
        | (rw [t_si]; (conv => whnf))
        | (refine ⟨_, rfl, ?_⟩; (conv => whnf))
        | (refine ⟨_, _, rfl, ?_⟩; (conv => whnf))
        | (refine ⟨_, _, _, rfl, ?_⟩; (conv => whnf))
        | (refine ⟨_, _, _, _, rfl, ?_⟩; (conv => whnf))
        | (rw [x0]; (conv => whnf))
        | (refine And.intro (fun c => ?_) (fun c => ?_) <;> (first | (exact absurd c (by decide +kernel)) | (exact absurd c (by assumption)) | (exact False.elim (c (by assumption))) | (conv => whnf)))
        | fail)
      intro J2 hJ2 hp2
      (conv => whnf)
      have hp2 : t_lp (xm_u2 J1 0 28 (nI 0)) J2 n 6 0 (p_sum f n 6 (p_bl f n 0)) := hp2
      have rd2 := rd1.tr hJ2.rd
      have ht2 := hJ2.tx ht1
      have f2 : J2 0 1 = nI 0 := (hJ2.2 1 (by decide) (by decide) (by decide) (by decide) (by decide)).trans f1
      unfold p_lawt at hR
      cases hq : p_sum f n 6 (p_bl f n 0) with
      | inl e =>
        rw [hq] at hR hp2
        have hp2 : t_ps J2 n (.inl e) := hp2
        obtain ⟨k2, hk2, h42⟩ := t_ps_at hp2
        have hW : t_pf J2 (xm_u2 J2 0 4 (nI (p_bl f n k2))) := t_pf.u (Or.inl rfl)
        have h5 : ¬ xm_u2 J2 0 4 (nI (p_bl f n k2)) 0 5 = 0 := by rw [xm_u2_at, if_neg (by decide)]; exact t_ps_e hp2
        have fin := end1 (xm_u2 J2 0 4 (nI (p_bl f n k2))) e (rd2.tr hW.rd) ((hW.2 1 (by decide) (by decide) (by decide)).trans f2) (by
            obtain ⟨cc, q⟩ := e
            exact ⟨by rw [xm_u2_at, if_neg (by decide)]; exact hp2.1, hp2.2.1, by rw [xm_u2_at, if_neg (by decide)]; exact hp2.2.2.1, _, (p_bl_in (f := f) hk2).2, by rw [xm_u2_at, if_pos rfl]⟩) hR.symm
        clear end1 end2
        repeat' (first
          | ((with_reducible refine @And.intro (vp_in _ _) _ ?_ ?_); (· (first | with_reducible assumption | ((with_reducible refine t_vin ?_); decide) | ((with_reducible refine vp_in_nI ?_ ?_) <;> first | omega | decide) | (simp (disch := omega) only [xl_n, xl_m, nI_dec, nI_sb, nI_add, pk_mul]; (with_reducible refine vp_in_nI ?_ ?_) <;> first | omega | decide))); (conv => whnf))
          | (refine And.intro (by first | with_reducible assumption | exact (show tL _ = _ from rfl) | decide) ?_; (conv => whnf))
          | ((with_reducible refine @And.intro (_ = _) _ ?_ ?_); (· rfl); (conv => whnf))
          | ((with_reducible refine @And.intro (@LE.le Nat _ _ _) _ ?_ ?_); (· (first | exact Nat.zero_le _ | exact Nat.le_of_ble_eq_true rfl | omega)); (conv => whnf))
          | ((with_reducible refine @And.intro (@LT.lt Nat _ _ _) _ ?_ ?_); (· omega); (conv => whnf))
          | ((with_reducible refine @And.intro (∃ _, _ = _) _ ?_ ?_); (· exact ⟨_, rfl⟩); (conv => whnf))
          | ((with_reducible refine @And.intro (_ ∨ _) _ ?_ ?_); (· (first | exact Or.inl rfl | exact Or.inr rfl | exact t_b01 _ | assumption)); (conv => whnf))
          | ((with_reducible refine @And.intro (¬ (_ = _)) _ ?_ ?_); (· first | assumption | (with_reducible assumption)); (conv => whnf))
          | (refine hX _ _ _ _ _ _ ?_; (conv => whnf); fail_if_success show False)
          | (rw [t_si]; (conv => whnf))
          | (refine ⟨_, rfl, ?_⟩; (conv => whnf))
          | (refine ⟨_, _, rfl, ?_⟩; (conv => whnf))
          | (refine ⟨_, _, _, rfl, ?_⟩; (conv => whnf))
          | (refine ⟨_, _, _, _, rfl, ?_⟩; (conv => whnf))
          | (refine ⟨_, _, (by with_reducible assumption), ?_⟩; (conv => whnf))
          | (refine ⟨_, (by first | with_reducible assumption | exact rfl), ?_⟩; (conv => whnf))
          | (refine And.intro (fun c => ?_) (fun c => ?_) <;> (first | (exact absurd c (by decide +kernel)) | (exact absurd c (by assumption)) | (exact False.elim (c (by assumption))) | (conv => whnf)))
          | fail)
        exact fin
      | inr e =>
        obtain ⟨L, k2⟩ := e
        rw [hq] at hR hp2
        have hR : R = if p_bl f n k2 < n then .inl (nI 1, p_bl f n k2) else .inr (L, p_bl f n k2) := hR
        obtain ⟨s1, hkn2, htr⟩ := (l_it_sum 6).1 _ _ _ hk0 hq
        have ps2 := hp2.1
        obtain ⟨p5, p4, pk⟩ := t_ps_n ps2
        have hb := p_bl_in (f := f) pk
        have hW : t_pf J2 (xm_u2 J2 0 4 (nI (p_bl f n k2))) := t_pf.u (Or.inl rfl)
        have lp3 := hp2.pf0 hW (t_ps_bl ps2) hb.1
        have w5 := t_ps_0 lp3.1
        have w4 : (tW (xm_u2 J2 0 4 (nI (p_bl f n k2)))).2.1 0 4 = nI (p_bl f n k2) := lp3.1.2.1
        have tx3 := hW.tx ht2
        have w2 : (tW (xm_u2 J2 0 4 (nI (p_bl f n k2)))).2.1 0 2 = nI n := tx3.1
        have f3 : xm_u2 J2 0 4 (nI (p_bl f n k2)) 0 1 = nI 0 := (hW.2 1 (by decide) (by decide) (by decide)).trans f2
        by_cases hlt : p_bl f n k2 < n
        · rw [if_pos hlt] at hR
          have hlt' : ¬ nI n ≤ nI (p_bl f n k2) := nI_ge hlt (by omega)
          have fin := end1 (xm_u2 (xm_u2 (xm_u2 J2 0 4 (nI (p_bl f n k2))) 0 5 (nI 1)) 0 6 (nI (p_bl f n k2))) (nI 1, p_bl f n k2) ((rd2.tr hW.rd).tr ((t_pf.u (Or.inr (Or.inl rfl))).tr (t_pf.u (Or.inr (Or.inr rfl)))).rd) (by rw [xm_u2_at, if_neg (by decide), xm_u2_at, if_neg (by decide)]; exact f3) (t_ps_w lp3.1 (by decide +kernel)) hR.symm
          clear end1 end2
          repeat' (first
            | ((with_reducible refine @And.intro (vp_in _ _) _ ?_ ?_); (· (first | with_reducible assumption | ((with_reducible refine t_vin ?_); decide) | ((with_reducible refine vp_in_nI ?_ ?_) <;> first | omega | decide) | (simp (disch := omega) only [xl_n, xl_m, nI_dec, nI_sb, nI_add, pk_mul]; (with_reducible refine vp_in_nI ?_ ?_) <;> first | omega | decide))); (conv => whnf))
            | (refine And.intro (by first | with_reducible assumption | exact (show tL _ = _ from rfl) | decide) ?_; (conv => whnf))
            | ((with_reducible refine @And.intro (_ = _) _ ?_ ?_); (· rfl); (conv => whnf))
            | ((with_reducible refine @And.intro (@LE.le Nat _ _ _) _ ?_ ?_); (· (first | exact Nat.zero_le _ | exact Nat.le_of_ble_eq_true rfl | omega)); (conv => whnf))
            | ((with_reducible refine @And.intro (@LT.lt Nat _ _ _) _ ?_ ?_); (· omega); (conv => whnf))
            | ((with_reducible refine @And.intro (∃ _, _ = _) _ ?_ ?_); (· exact ⟨_, rfl⟩); (conv => whnf))
            | ((with_reducible refine @And.intro (_ ∨ _) _ ?_ ?_); (· (first | exact Or.inl rfl | exact Or.inr rfl | exact t_b01 _ | assumption)); (conv => whnf))
            | ((with_reducible refine @And.intro (¬ (_ = _)) _ ?_ ?_); (· first | assumption | (with_reducible assumption)); (conv => whnf))
            | (refine hX _ _ _ _ _ _ ?_; (conv => whnf); fail_if_success show False)
            | (rw [t_si]; (conv => whnf))
            | (refine ⟨_, rfl, ?_⟩; (conv => whnf))
            | (refine ⟨_, _, rfl, ?_⟩; (conv => whnf))
            | (refine ⟨_, _, _, rfl, ?_⟩; (conv => whnf))
            | (refine ⟨_, _, _, _, rfl, ?_⟩; (conv => whnf))
            | (rw [w2]; (conv => whnf))
            | (rw [w4]; (conv => whnf))
            | (refine ⟨_, _, (by with_reducible assumption), ?_⟩; (conv => whnf))
            | (refine ⟨_, (by first | with_reducible assumption | exact rfl), ?_⟩; (conv => whnf))
            | (refine And.intro (fun c => ?_) (fun c => ?_) <;> (first | (exact absurd c (by decide +kernel)) | (exact absurd c (by assumption)) | (exact False.elim (c (by assumption))) | (conv => whnf)))
            | fail)
          all_goals first
            | exact fin
            | exact absurd lp3.1.1 (by assumption)
        · rw [if_neg hlt] at hR
          have hlt' : nI n ≤ nI (p_bl f n k2) := nI_le (by omega) (by omega)
          have lpJ : t_lp J (xm_u2 J2 0 4 (nI (p_bl f n k2))) n 6 0 (.inr (L, p_bl f n k2)) := ⟨lp3.1, lp3.2.1, lp3.2.2.1, lp3.2.2.2.1, fun j hj => by omega, lp3.2.2.2.2.2⟩
          have fin := end2 (xm_u2 J2 0 4 (nI (p_bl f n k2))) L _ (rd2.tr hW.rd) f3 tx3 lpJ hlt htr hR.symm
          clear end1 end2
          repeat' (first
            | ((with_reducible refine @And.intro (vp_in _ _) _ ?_ ?_); (· (first | with_reducible assumption | ((with_reducible refine t_vin ?_); decide) | ((with_reducible refine vp_in_nI ?_ ?_) <;> first | omega | decide) | (simp (disch := omega) only [xl_n, xl_m, nI_dec, nI_sb, nI_add, pk_mul]; (with_reducible refine vp_in_nI ?_ ?_) <;> first | omega | decide))); (conv => whnf))
            | (refine And.intro (by first | with_reducible assumption | exact (show tL _ = _ from rfl) | decide) ?_; (conv => whnf))
            | ((with_reducible refine @And.intro (_ = _) _ ?_ ?_); (· rfl); (conv => whnf))
            | ((with_reducible refine @And.intro (@LE.le Nat _ _ _) _ ?_ ?_); (· (first | exact Nat.zero_le _ | exact Nat.le_of_ble_eq_true rfl | omega)); (conv => whnf))
            | ((with_reducible refine @And.intro (@LT.lt Nat _ _ _) _ ?_ ?_); (· omega); (conv => whnf))
            | ((with_reducible refine @And.intro (∃ _, _ = _) _ ?_ ?_); (· exact ⟨_, rfl⟩); (conv => whnf))
            | ((with_reducible refine @And.intro (_ ∨ _) _ ?_ ?_); (· (first | exact Or.inl rfl | exact Or.inr rfl | exact t_b01 _ | assumption)); (conv => whnf))
            | ((with_reducible refine @And.intro (¬ (_ = _)) _ ?_ ?_); (· first | assumption | (with_reducible assumption)); (conv => whnf))
            | (refine hX _ _ _ _ _ _ ?_; (conv => whnf); fail_if_success show False)
            | (rw [t_si]; (conv => whnf))
            | (refine ⟨_, rfl, ?_⟩; (conv => whnf))
            | (refine ⟨_, _, rfl, ?_⟩; (conv => whnf))
            | (refine ⟨_, _, _, rfl, ?_⟩; (conv => whnf))
            | (refine ⟨_, _, _, _, rfl, ?_⟩; (conv => whnf))
            | (rw [w2]; (conv => whnf))
            | (rw [w4]; (conv => whnf))
            | (refine ⟨_, _, (by with_reducible assumption), ?_⟩; (conv => whnf))
            | (refine ⟨_, (by first | with_reducible assumption | exact rfl), ?_⟩; (conv => whnf))
            | (refine And.intro (fun c => ?_) (fun c => ?_) <;> (first | (exact absurd c (by decide +kernel)) | (exact absurd c (by assumption)) | (exact False.elim (c (by assumption))) | (conv => whnf)))
            | fail)
          exact fin
    · have f1 : (t_in m (nI 0) (J 0 1) && decide (m ≤ nI 150)) = false := by rw [decide_eq_false h150, Bool.and_false]
      have h150' : ¬ m ≤ Int32.ofInt 150 := by rw [e150]; exact h150
      clear hin
      repeat' (first
        | ((with_reducible refine @And.intro (vp_in _ _) _ ?_ ?_); (· (first | with_reducible assumption | ((with_reducible refine t_vin ?_); decide) | ((with_reducible refine vp_in_nI ?_ ?_) <;> first | omega | decide) | (simp (disch := omega) only [xl_n, xl_m, nI_dec, nI_sb, nI_add, pk_mul]; (with_reducible refine vp_in_nI ?_ ?_) <;> first | omega | decide))); (conv => whnf))
        | (refine And.intro (by first | with_reducible assumption | exact (show tL _ = _ from rfl) | decide) ?_; (conv => whnf))
        | ((with_reducible refine @And.intro (_ = _) _ ?_ ?_); (· rfl); (conv => whnf))
        | ((with_reducible refine @And.intro (@LE.le Nat _ _ _) _ ?_ ?_); (· (first | exact Nat.zero_le _ | exact Nat.le_of_ble_eq_true rfl | omega)); (conv => whnf))
        | ((with_reducible refine @And.intro (@LT.lt Nat _ _ _) _ ?_ ?_); (· omega); (conv => whnf))
        | ((with_reducible refine @And.intro (∃ _, _ = _) _ ?_ ?_); (· exact ⟨_, rfl⟩); (conv => whnf))
        | ((with_reducible refine @And.intro (_ ∨ _) _ ?_ ?_); (· (first | exact Or.inl rfl | exact Or.inr rfl | exact t_b01 _ | assumption)); (conv => whnf))
        | ((with_reducible refine @And.intro (¬ (_ = _)) _ ?_ ?_); (· first | assumption | (with_reducible assumption)); (conv => whnf))
        | (refine hX _ _ _ _ _ _ ?_; (conv => whnf); fail_if_success show False)
        | (rw [t_si]; (conv => whnf))
        | (refine ⟨_, rfl, ?_⟩; (conv => whnf))
        | (refine ⟨_, _, rfl, ?_⟩; (conv => whnf))
        | (refine ⟨_, _, _, rfl, ?_⟩; (conv => whnf))
        | (refine ⟨_, _, _, _, rfl, ?_⟩; (conv => whnf))
        | (rw [hin']; (conv => whnf))
        | (refine And.intro (fun c => ?_) (fun c => ?_) <;> (first | (exact absurd c (by decide +kernel)) | (exact absurd c (by assumption)) | (exact False.elim (c (by assumption))) | (conv => whnf)))
        | fail)
      exact t_ref' hQ hg h01 (by simp [f1]) (by decide) rfl rfl
theorem ct_X11_law {Iv : xI} (hI : xm_good Iv) : xm_Ct Iv yX11_law (ws_ yX11_law cX11_law 2 (some .int)) 32 0 0 S_X11_law := xm_enter (rt := 0) (init := false) (by decide +kernel) rfl (fun h => by cases h) (Or.inl ⟨rfl, rfl⟩) (oX11_law hI) body_X11_law
theorem cv_X11_law {Iv : xI} {own : String} {cc : ByteArray} {fr pc idx : Nat} (hI : xm_good Iv) (hdg : decode cc pc = .ok (.invokevirtual idx, 3)) (hl : xm_ml own idx yX11_law) (hfr : 32 < fr) : xm_CallOK Iv own cc fr pc (pc + 3) 2 0 0 (xm_this 8 S_X11_law) := xm_callV 8 hI (ct_X11_law hI) hdg hl q2241 q2242 q145 q2243 rfl rfl (by decide +kernel) hfr (by decide)
