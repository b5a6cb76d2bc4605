/-! ===== the reference: a family read ===== -/
set_option maxRecDepth 100000
def p_begT (F : tI) : gT := ((fun p => if p < 8 then t_beg F (1 + p) else nI 0), (fun p => if p < 8 then t_beg F (9 + p) else nI 0), (fun p => if p < 8 then t_beg F (17 + p) else nI 0), (fun h p => if h < 9 ∧ p < 8 then t_beg F (25 + 8 * h + p) else nI 0), (fun h => if h < 9 then t_beg F (97 + h) else nI 0), (fun h => if h < 9 then t_has (t_beg F 0) h else false), t_beg F 106)
def p_stK (F : tI) : gK := (f_h F, f_p F, (fun h => if h < f_h F then F (100 + h) 0 else nI 0), (fun h => if h < f_h F then F (100 + h) 1 else nI 0), (fun h => if h < f_h F then F (100 + h) 2 else nI 0), (fun p => if p < f_p F then F (120 + p) 0 else nI 0), (fun p => if p < f_p F then F (120 + p) 1 else nI 0), (fun p => if p < f_p F then F 15 p else nI 0), F 11 3, fun f => nI 2 * f 0 - nI 3 * f 3 + f 8)
def p_stX (F : tI) : gX := ((fun h => if h < 9 then F 17 h else nI 0), (fun h g => if h < 9 ∧ g < 9 then F (160 + h) g else nI 0), f_a F, (fun a => if a < f_a F then F (140 + a) 0 else nI 0), (fun a => if a < f_a F then f_m F a else 0), (fun a i => if i < (if a < f_a F then f_m F a else 0) then (F (140 + a) (2 + i)).toNatClampNeg else 0))
/-- what stands, when F was read -/
def p_stood (G : gG) (F : tI) : gG := (p_stK F, p_stX F, (p_begT F, p_begT F, p_begT F, nI 0, 0, (fun _ => p_begT F), 0, (fun _ _ => nI 0), 0, (fun _ => nI 0), nM, grefd G))
/-- the tape taken, and where the fault is -/
def g_flt (G : gG) (q : Nat) : gG := g_setN G fun n => (n.1, n.2.1, n.2.2.1, n.2.2.2.1, n.2.2.2.2.1, n.2.2.2.2.2.1, n.2.2.2.2.2.2.1, n.2.2.2.2.2.2.2.1, 0, (fun _ => nI 0), nI q, n.2.2.2.2.2.2.2.2.2.2.2)
def q_family (G : gG) (m : Int32) : gR := g_ck G (t_in m (nI 0) (nI (gtape G))) (nI 1) 1 (match p_fam (gfed G) m.toNatClampNeg with
  | .inl (c, q) => (nI 0, c - nI 10, g_flt G q)
  | .inr (F, _) => (nI 0, F 11 1, p_stood G F))
theorem p_sk_eq {q : Int32 → Bool} {f g : Nat → Int32} {n k : Nat} (h : ∀ k, k < n → f k = g k) : p_sk q f n k = p_sk q g n k := by
  have : ∀ u k, n - k = u → p_sk q f n k = p_sk q g n k := by
    intro u
    induction u with
    | zero => exact fun k hk => by rw [p_sk_f (fun z => by omega), p_sk_f (fun z => by omega)]
    | succ u ih =>
      intro k hk
      have hn : k < n := by omega
      cases e : q (f k) with
      | true => rw [p_sk_t hn e, p_sk_t hn (by rw [← h k hn]; exact e), ih (k + 1) (by omega)]
      | false => rw [p_sk_f (fun _ => e), p_sk_f (fun _ => by rw [← h k hn]; exact e)]
  exact this _ k rfl
theorem t_stood_good {W F : tI} (hiF : t_inv F) (w27 : W 0 27 = nI 0) (w41 : W 0 41 = nI 0) (w43 : W 0 43 = nI 0) (w45 : W 0 45 = nI 0) (w01 : W 0 1 = nI 0) (w7 : ∀ b k, (t_st14 F 8 b k ∨ ((b = 36 ∨ b = 37 ∨ b = 38) ∧ k < 107)) → W b k = t_std F b k) : (t_h W = f_h F ∧ t_p W = f_p F ∧ t_a W = f_a F ∧ (∀ a, t_am W a = if a < f_a F then f_m F a else 0)) ∧ t_good W := by
  obtain ⟨⟨a0, a1, a2, a3, a4, a5⟩, hA⟩ := hiF
  have st : ∀ b k, t_stS F b k → W b k = t_std F b k := fun b k h => w7 b k (Or.inl (Or.inl (Or.inl (Or.inl h))))
  have v12 : ∀ k, k < 4 → W 12 k = F 11 k := fun k hk => (st 12 k (Or.inl ⟨rfl, hk⟩)).trans rfl
  have eh : t_h W = f_h F := by unfold t_h f_h; rw [v12 0 (by decide)]
  have ep : t_p W = f_p F := by unfold t_p f_p; rw [v12 1 (by decide)]
  have ea : t_a W = f_a F := by unfold t_a f_a; rw [v12 2 (by decide)]
  have vA : ∀ a, a < f_a F → ∀ k, k < 2 + f_m F a → W (150 + a) k = F (140 + a) k := fun a ha k hk => by
    rw [st (150 + a) k (Or.inr (Or.inr (Or.inr (Or.inl ⟨by omega, by omega, by rw [show 150 + a - 150 = a by omega]; exact hk⟩)))), t_std_r (by omega), show 150 + a - 10 = 140 + a by omega]
  have em : ∀ a, t_am W a = if a < f_a F then f_m F a else 0 := fun a => by
    unfold t_am
    rw [ea]
    by_cases q : a < f_a F
    · rw [if_pos q, if_pos q, vA a q 1 (by omega)]
      rfl
    · rw [if_neg q, if_neg q]
  have elm : t_lm W = 0 := by unfold t_lm; rw [w27, nI_clamp (by decide)]
  have el : t_l W = 0 := by unfold t_l; rw [w41, nI_clamp (by decide)]
  have ei : t_im W = 0 := by unfold t_im; rw [w43, nI_clamp (by decide)]
  have et : t_tp W = 0 := by unfold t_tp; rw [w01, nI_clamp (by decide)]
  refine ⟨⟨eh, ep, ea, em⟩, ⟨by rw [eh, v12 0 (by decide)]; exact a0, by rw [eh]; exact a1, by rw [ep, v12 1 (by decide)]; exact a2, by rw [ep]; exact a3, by rw [ea, v12 2 (by decide)]; exact a4, by rw [ea]; exact a5⟩, ⟨by rw [elm]; exact w27, by omega, fun k hk => by omega, fun h => by omega⟩, w45, ⟨by rw [el]; exact w41, by omega⟩, ⟨by rw [ei]; exact w43, by omega⟩, ⟨by rw [et]; exact w01, by omega⟩, fun a ha => ?_, fun k hk => by omega⟩
  rw [ea] at ha
  obtain ⟨m, hm, e1, h3⟩ := hA a ha
  have efm : f_m F a = m := by unfold f_m; rw [e1, nI_clamp (by omega)]
  rw [em a, if_pos ha, ep, efm]
  refine ⟨by rw [vA a ha 1 (by omega)]; exact e1, hm, fun i hi => ?_⟩
  obtain ⟨p, hp, e⟩ := h3 i hi
  exact ⟨p, hp, by rw [vA a ha (2 + i) (by omega)]; exact e⟩
theorem p_ic {α : Type} {c : Prop} [Decidable c] {x y z : α} (q : c → x = y) : (if c then x else z) = (if c then y else z) := by
  by_cases hc : c
  · rw [if_pos hc, if_pos hc, q hc]
  · rw [if_neg hc, if_neg hc]
theorem t_stood_G {W F : tI} {G : gG} (hiF : t_inv F) (w27 : W 0 27 = nI 0) (w41 : W 0 41 = nI 0) (w42 : W 0 42 = nI 0) (w43 : W 0 43 = nI 0) (w01 : W 0 1 = nI 0) (w03 : W 0 3 = nM) (w10 : (fun k => if k < 2 then W 10 k else nI 0) = grefd G) (w7 : ∀ b k, (t_st14 F 8 b k ∨ ((b = 36 ∨ b = 37 ∨ b = 38) ∧ k < 107)) → W b k = t_std F b k) (hcn : t_h W = f_h F ∧ t_p W = f_p F ∧ t_a W = f_a F ∧ (∀ a, t_am W a = if a < f_a F then f_m F a else 0)) : tG W = p_stood G F := by
  obtain ⟨eh, ep, ea, em⟩ := hcn
  obtain ⟨⟨a0, a1, a2, a3, a4, a5⟩, hA⟩ := hiF
  have st : ∀ b k, t_stS F b k → W b k = t_std F b k := fun b k h => w7 b k (Or.inl (Or.inl (Or.inl (Or.inl h))))
  have vR : ∀ b k, 110 ≤ b → t_stS F b k → W b k = F (b - 10) k := fun b k hb h => (st b k h).trans (t_std_r hb)
  have v18 : ∀ k, k < 9 → W 18 k = F 17 k := fun k hk => (w7 18 k (Or.inl (Or.inl (Or.inl (Or.inr ⟨rfl, hk⟩))))).trans rfl
  have v16 : ∀ k, k < 8 → W 16 k = F 15 k := fun k hk => (w7 16 k (Or.inl (Or.inr (by unfold t_a14; omega)))).trans rfl
  have v12 : W 12 3 = F 11 3 := (st 12 3 (Or.inl ⟨rfl, by decide⟩)).trans rfl
  have vB : ∀ r, (r = 36 ∨ r = 37 ∨ r = 38) → ∀ k, k < 107 → W r k = t_beg F k := fun r hr k hk => (w7 r k (Or.inr ⟨hr, hk⟩)).trans (by rcases hr with rfl | rfl | rfl <;> rfl)
  have eA : ∀ r, (r = 36 ∨ r = 37 ∨ r = 38) → tA W r = p_begT F := fun r hr => by
    have v := vB r hr
    unfold tA p_begT
    rw [v 0 (by decide), v 106 (by decide)]
    have f1 : (fun p => if p < 8 then W r (1 + p) else nI 0) = fun p => if p < 8 then t_beg F (1 + p) else nI 0 := funext fun p => p_ic fun q => v _ (by omega)
    have f2 : (fun p => if p < 8 then W r (9 + p) else nI 0) = fun p => if p < 8 then t_beg F (9 + p) else nI 0 := funext fun p => p_ic fun q => v _ (by omega)
    have f3 : (fun p => if p < 8 then W r (17 + p) else nI 0) = fun p => if p < 8 then t_beg F (17 + p) else nI 0 := funext fun p => p_ic fun q => v _ (by omega)
    have f4 : (fun h p => if h < 9 ∧ p < 8 then W r (25 + 8 * h + p) else nI 0) = fun h p => if h < 9 ∧ p < 8 then t_beg F (25 + 8 * h + p) else nI 0 := funext fun h => funext fun p => p_ic fun q => v _ (by omega)
    have f5 : (fun h => if h < 9 then W r (97 + h) else nI 0) = fun h => if h < 9 then t_beg F (97 + h) else nI 0 := funext fun h => p_ic fun q => v _ (by omega)
    rw [f1, f2, f3, f4, f5]
  have eK : tK W = p_stK F := by
    unfold tK p_stK
    have eL : t_law W = fun f => nI 2 * f 0 - nI 3 * f 3 + f 8 := funext fun f => if_pos w27
    have k1 : ∀ i, i < 3 → (fun h => if h < f_h F then W (110 + h) i else nI 0) = fun h => if h < f_h F then F (100 + h) i else nI 0 := fun i hi => funext fun h => p_ic fun q => (vR _ _ (by omega) (Or.inr (Or.inl ⟨by omega, by omega, hi⟩))).trans (by rw [show 110 + h - 10 = 100 + h by omega])
    have k2 : ∀ i, i < 3 → (fun h => if h < f_p F then W (130 + h) i else nI 0) = fun h => if h < f_p F then F (120 + h) i else nI 0 := fun i hi => funext fun h => p_ic fun q => (vR _ _ (by omega) (Or.inr (Or.inr (Or.inl ⟨by omega, by omega, hi⟩)))).trans (by rw [show 130 + h - 10 = 120 + h by omega])
    have k3 : (fun p => if p < f_p F then W 16 p else nI 0) = fun p => if p < f_p F then F 15 p else nI 0 := funext fun p => p_ic fun q => v16 p (by omega)
    rw [eL, eh, ep, k1 0 (by decide), k1 1 (by decide), k1 2 (by decide), k2 0 (by decide), k2 1 (by decide), k3, v12]
  have eX : tX W = p_stX F := by
    have em' : t_am W = fun a => if a < f_a F then f_m F a else 0 := funext em
    have vA : ∀ a, a < f_a F → ∀ k, k < 2 + f_m F a → W (150 + a) k = F (140 + a) k := fun a ha k hk => (vR _ _ (by omega) (Or.inr (Or.inr (Or.inr (Or.inl ⟨by omega, by omega, by rw [show 150 + a - 150 = a by omega]; exact hk⟩))))).trans (by rw [show 150 + a - 10 = 140 + a by omega])
    unfold tX p_stX
    rw [em', ea]
    have x1 : (fun h => if h < 9 then W 18 h else nI 0) = fun h => if h < 9 then F 17 h else nI 0 := funext fun h => p_ic fun q => v18 h q
    have x2 : (fun h g => if h < 9 ∧ g < 9 then W (170 + h) g else nI 0) = fun h g => if h < 9 ∧ g < 9 then F (160 + h) g else nI 0 := funext fun h => funext fun g => p_ic fun q => (vR _ _ (by omega) (Or.inr (Or.inr (Or.inr (Or.inr ⟨by omega, by omega, q.2⟩))))).trans (by rw [show 170 + h - 10 = 160 + h by omega])
    have x3 : (fun a => if a < f_a F then W (150 + a) 0 else nI 0) = fun a => if a < f_a F then F (140 + a) 0 else nI 0 := funext fun a => p_ic fun q => vA a q 0 (by omega)
    have x4 : (fun a i => if i < (if a < f_a F then f_m F a else 0) then (W (150 + a) (2 + i)).toNatClampNeg else 0) = fun a i => if i < (if a < f_a F then f_m F a else 0) then (F (140 + a) (2 + i)).toNatClampNeg else 0 := funext fun a => funext fun i => p_ic fun q => by
      by_cases w : a < f_a F
      · rw [if_pos w] at q
        rw [vA a w (2 + i) (by omega)]
      · rw [if_neg w] at q
        omega
    rw [x1, x2, x3, x4]
  have eN : tN W = (p_begT F, p_begT F, p_begT F, nI 0, 0, (fun _ => p_begT F), 0, (fun _ _ => nI 0), 0, (fun _ => nI 0), nM, grefd G) := by
    have el : t_l W = 0 := by unfold t_l; rw [w41, nI_clamp (by decide)]
    have ei : t_im W = 0 := by unfold t_im; rw [w43, nI_clamp (by decide)]
    have et : t_tp W = 0 := by unfold t_tp; rw [w01, nI_clamp (by decide)]
    unfold tN
    rw [eA 38 (by omega), eA 36 (by omega), eA 37 (by omega), w42, ei, el, et, w03, w10]
    simp only [Nat.not_lt_zero, if_false, false_and]
  unfold tG p_stood
  rw [eK, eX, eN]
abbrev bX11_family_0 : List xE := [(.aload_n 0, 1, 0, 0, 0), (.iconst 0, 2, 0, 0, 0), (.putfield 134, 5, 8, 0, 0), (.aload_n 0, 6, 0, 0, 0), (.iload_n 1, 7, 0, 0, 0), (.iconst 0, 8, 0, 0, 0), (.aload_n 0, 9, 0, 0, 0), (.getfield 137, 12, 8, 1, 0), (.invokestatic 168, 15, 0, 0, 9), (.ifCond .ne 7, 18, 0, 22, 0), (.iconst 1, 19, 0, 0, 0), (.goto 4, 22, 0, 23, 0)]
abbrev bX11_family_22 : List xE := [(.iconst 0, 23, 0, 0, 0)]
abbrev bX11_family_23 : List xE := [(.iconst 1, 24, 0, 0, 0), (.iconst 1, 25, 0, 0, 0), (.invokevirtual 249, 28, 0, 1, 9), (.ifCond .eq 5, 31, 0, 33, 0), (.iconst 0, 32, 0, 0, 0), (.ireturn, 33, 0, 0, 0)]
abbrev bX11_family_33 : List xE := [(.aload_n 0, 34, 0, 0, 0), (.iload_n 1, 35, 0, 0, 0), (.invokevirtual 253, 38, 0, 2, 9), (.aload_n 0, 39, 0, 0, 0), (.invokevirtual 128, 42, 0, 3, 9)]
abbrev bX11_family_42 : List xE := [(.aload_n 0, 43, 0, 0, 0), (.getfield 150, 46, 8, 5, 0), (.ifCond .ne 25, 49, 0, 71, 0), (.aload_n 0, 50, 0, 0, 0), (.getfield 143, 53, 8, 4, 0), (.aload_n 0, 54, 0, 0, 0), (.getfield 140, 57, 8, 2, 0), (.if_icmp .ge 14, 60, 0, 71, 0), (.aload_n 0, 61, 0, 0, 0), (.invokevirtual 256, 64, 0, 4, 9), (.aload_n 0, 65, 0, 0, 0), (.invokevirtual 156, 68, 0, 5, 9), (.goto (-26), 71, 0, 42, 0)]
abbrev bX11_family_71 : List xE := [(.aload_n 0, 72, 0, 0, 0), (.getfield 150, 75, 8, 5, 0), (.ifCond .eq 8, 78, 0, 83, 0), (.aload_n 0, 79, 0, 0, 0), (.invokevirtual 259, 82, 0, 6, 9), (.ireturn, 83, 0, 0, 0)]
abbrev bX11_family_83 : List xE := [(.aload_n 0, 84, 0, 0, 0), (.iconst (-1), 85, 0, 0, 0), (.putfield 9, 88, 8, 3, 0), (.aload_n 0, 89, 0, 0, 0), (.invokevirtual 131, 92, 0, 7, 9), (.aload_n 0, 93, 0, 0, 0), (.getfield 23, 96, 8, 12, 1), (.iconst 1, 97, 0, 0, 0), (.iaload, 98, 0, 0, 0), (.ireturn, 99, 0, 0, 0)]
abbrev kX11_family : List (Nat × List xE) := [(0, bX11_family_0), (22, bX11_family_22), (23, bX11_family_23), (33, bX11_family_33), (42, bX11_family_42), (71, bX11_family_71), (83, bX11_family_83)]
abbrev lX11_family : List (Nat × Nat × Nat × xS) := [(3, 0, 0, S_X11_in), (4, 0, 0, xm_this 8 S_X11_bad), (2, 0, 0, xm_this 8 S_X11_starts), (1, 0, 0, xm_this 8 S_X11_tellsNothing), (1, 0, 0, xm_this 8 S_X11_clause), (1, 0, 0, xm_this 8 S_X11_blanks), (1, 0, 0, xm_this 8 S_X11_ends), (1, 0, 0, xm_this 8 S_X11_stands)]
theorem oX11_family_0 {Iv : xI} (hI : xm_good Iv)  : xm_okb Iv RX11 cX11_family false 7 lX11_family bX11_family_0 0 := xo_0 dX11_family_0 rfl trivial (xo_0 dX11_family_1 rfl trivial (xo_0 dX11_family_2 rfl (xm_fp_of (xm_fg_of (Or.inl q1955) (by decide) rfl (by decide) rfl rfl (Or.inl rfl) rfl) (by decide) rfl (Or.inl ⟨rfl, rfl⟩) rfl) (xo_0 dX11_family_5 rfl trivial (xo_0 dX11_family_6 rfl trivial (xo_0 dX11_family_7 rfl trivial (xo_0 dX11_family_8 rfl trivial (xo_0 dX11_family_9 rfl (xm_fg_of (Or.inl q1956) (by decide) rfl (by decide) rfl rfl (Or.inl rfl) rfl) (xo_c rfl (cv_X11_in hI dX11_family_12 (Or.inl q1942) (by decide)) (xo_0 dX11_family_15 rfl rfl (xo_0 dX11_family_18 rfl trivial (xo_0 dX11_family_19 rfl rfl (xo_n))))))))))))
theorem oX11_family_22 {Iv : xI} (hI : xm_good Iv)  : xm_okb Iv RX11 cX11_family false 7 lX11_family bX11_family_22 22 := xo_0 dX11_family_22 rfl trivial (xo_n)
theorem oX11_family_23 {Iv : xI} (hI : xm_good Iv)  : xm_okb Iv RX11 cX11_family false 7 lX11_family bX11_family_23 23 := xo_0 dX11_family_23 rfl trivial (xo_0 dX11_family_24 rfl trivial (xo_c rfl (cv_X11_bad hI dX11_family_25 (Or.inl q2137) (by decide)) (xo_0 dX11_family_28 rfl rfl (xo_0 dX11_family_31 rfl trivial (xo_0 dX11_family_32 rfl trivial (xo_n))))))
theorem oX11_family_33 {Iv : xI} (hI : xm_good Iv)  : xm_okb Iv RX11 cX11_family false 7 lX11_family bX11_family_33 33 := xo_0 dX11_family_33 rfl trivial (xo_0 dX11_family_34 rfl trivial (xo_c rfl (cv_X11_starts hI dX11_family_35 (Or.inl q2141) (by decide)) (xo_0 dX11_family_38 rfl trivial (xo_c rfl (cv_X11_tellsNothing hI dX11_family_39 (Or.inl q1931) (by decide)) (xo_n)))))
theorem oX11_family_42 {Iv : xI} (hI : xm_good Iv)  : xm_okb Iv RX11 cX11_family false 7 lX11_family bX11_family_42 42 := xo_0 dX11_family_42 rfl trivial (xo_0 dX11_family_43 rfl (xm_fg_of (Or.inl q1960) (by decide) rfl (by decide) rfl rfl (Or.inl rfl) rfl) (xo_0 dX11_family_46 rfl rfl (xo_0 dX11_family_49 rfl trivial (xo_0 dX11_family_50 rfl (xm_fg_of (Or.inl q1959) (by decide) rfl (by decide) rfl rfl (Or.inl rfl) rfl) (xo_0 dX11_family_53 rfl trivial (xo_0 dX11_family_54 rfl (xm_fg_of (Or.inl q1957) (by decide) rfl (by decide) rfl rfl (Or.inl rfl) rfl) (xo_0 dX11_family_57 rfl rfl (xo_0 dX11_family_60 rfl trivial (xo_c rfl (cv_X11_clause hI dX11_family_61 (Or.inl q2153) (by decide)) (xo_0 dX11_family_64 rfl trivial (xo_c rfl (cv_X11_blanks hI dX11_family_65 (Or.inl q2145) (by decide)) (xo_0 dX11_family_68 rfl rfl (xo_n)))))))))))))
theorem oX11_family_71 {Iv : xI} (hI : xm_good Iv)  : xm_okb Iv RX11 cX11_family false 7 lX11_family bX11_family_71 71 := xo_0 dX11_family_71 rfl trivial (xo_0 dX11_family_72 rfl (xm_fg_of (Or.inl q1960) (by decide) rfl (by decide) rfl rfl (Or.inl rfl) rfl) (xo_0 dX11_family_75 rfl rfl (xo_0 dX11_family_78 rfl trivial (xo_c rfl (cv_X11_ends hI dX11_family_79 (Or.inl q2236) (by decide)) (xo_0 dX11_family_82 rfl trivial (xo_n))))))
theorem oX11_family_83 {Iv : xI} (hI : xm_good Iv)  : xm_okb Iv RX11 cX11_family false 7 lX11_family bX11_family_83 83 := xo_0 dX11_family_83 rfl trivial (xo_0 dX11_family_84 rfl trivial (xo_0 dX11_family_85 rfl (xm_fp_of (xm_fg_of (Or.inl q1958) (by decide) rfl (by decide) rfl rfl (Or.inl rfl) rfl) (by decide) rfl (Or.inl ⟨rfl, rfl⟩) rfl) (xo_0 dX11_family_88 rfl trivial (xo_c rfl (cv_X11_stands hI dX11_family_89 (Or.inl q1935) (by decide)) (xo_0 dX11_family_92 rfl trivial (xo_1 dX11_family_93 rfl (xm_fg_of (Or.inl q1967) (by decide) rfl (by decide) rfl rfl (Or.inl rfl) rfl) (xo_0 dX11_family_96 rfl trivial (xo_0 dX11_family_97 rfl trivial (xo_0 dX11_family_98 rfl trivial (xo_n))))))))))
theorem oX11_family {Iv : xI} (hI : xm_good Iv)  : ∀ q ∈ kX11_family, xm_okb Iv RX11 cX11_family false 7 lX11_family q.2 q.1 := by
  intro q hq
  simp only [List.mem_cons, List.not_mem_nil, or_false] at hq
  rcases hq with rfl | rfl | rfl | rfl | rfl | rfl | rfl
  · exact oX11_family_0 hI  
  · exact oX11_family_22 hI  
  · exact oX11_family_23 hI  
  · exact oX11_family_33 hI  
  · exact oX11_family_42 hI  
  · exact oX11_family_71 hI  
  · exact oX11_family_83 hI  
def S_X11_family : xS := tU fun as I Q => ∃ m, as = [.ref 0, .int m] ∧ t_good I ∧ t_P Q (q_family (tG I) m)
theorem body_X11_family : xm_Body 2 0 0 0 [] lX11_family kX11_family S_X11_family := by
  intro X avs w Q QX hX0 hS
  have hG := xm_go [] hX0
  have hX := xm_go [42] hX0
  clear hX0
  obtain ⟨I, rfl, m, rfl, hg, hQ⟩ := hS
  refine ⟨rfl, ?_⟩
  repeat' (first
    | ((with_reducible refine @And.intro (vp_in _ _) _ ?_ ?_); (· (first | with_reducible assumption | ((with_reducible refine t_vin ?_); decide) | ((with_reducible refine vp_in_nI ?_ ?_) <;> first | omega | decide) | (simp (disch := omega) only [xl_n, xl_m, nI_dec, nI_sb, nI_add, pk_mul]; (with_reducible refine vp_in_nI ?_ ?_) <;> first | omega | decide))); (conv => whnf))
    | (refine And.intro (by first | with_reducible assumption | exact (show tL _ = _ from rfl) | decide) ?_; (conv => whnf))
    | ((with_reducible refine @And.intro (_ = _) _ ?_ ?_); (· rfl); (conv => whnf))
    | ((with_reducible refine @And.intro (@LE.le Nat _ _ _) _ ?_ ?_); (· (first | exact Nat.zero_le _ | exact Nat.le_of_ble_eq_true rfl | omega)); (conv => whnf))
    | ((with_reducible refine @And.intro (@LT.lt Nat _ _ _) _ ?_ ?_); (· omega); (conv => whnf))
    | ((with_reducible refine @And.intro (∃ _, _ = _) _ ?_ ?_); (· exact ⟨_, rfl⟩); (conv => whnf))
    | ((with_reducible refine @And.intro (_ ∨ _) _ ?_ ?_); (· (first | exact Or.inl rfl | exact Or.inr rfl | exact t_b01 _ | assumption)); (conv => whnf))
    | ((with_reducible refine @And.intro (¬ (_ = _)) _ ?_ ?_); (· first | assumption | (with_reducible assumption)); (conv => whnf))
    | (refine hX _ _ _ _ _ _ ?_; (conv => whnf); fail_if_success show False)
    | fail)
  rw [t_si]
  obtain ⟨J, hJ, hg1, hG1, h01⟩ := t_pub hg
  rw [← hJ]
  rw [← hG1] at hQ
  clear hJ hG1 hg I
  have hg := hg1
  have hok := hg.1
  have hl := hg.2.1
  have h8 := hok.2.2.2.1
  have h9 := hok.2.1
  (conv => whnf)
  obtain ⟨htp, h600⟩ := hg.2.2.2.2.2.1
  have egt : gtape (tG J) = t_tp J := rfl
  rw [q_family, egt, ← htp] at hQ
  cases hin : t_in m (nI 0) (J 0 1) with
  | false =>
    have f1 := hin
    have hin' : t_in m (Int32.ofInt 0) ((tW J).2.1 0 1) = false := by rw [xl_n.1]; exact hin
    repeat' (first
      | ((with_reducible refine @And.intro (vp_in _ _) _ ?_ ?_); (· (first | with_reducible assumption | ((with_reducible refine t_vin ?_); decide) | ((with_reducible refine vp_in_nI ?_ ?_) <;> first | omega | decide) | (simp (disch := omega) only [xl_n, xl_m, nI_dec, nI_sb, nI_add, pk_mul]; (with_reducible refine vp_in_nI ?_ ?_) <;> first | omega | decide))); (conv => whnf))
      | (refine And.intro (by first | with_reducible assumption | exact (show tL _ = _ from rfl) | decide) ?_; (conv => whnf))
      | ((with_reducible refine @And.intro (_ = _) _ ?_ ?_); (· rfl); (conv => whnf))
      | ((with_reducible refine @And.intro (@LE.le Nat _ _ _) _ ?_ ?_); (· (first | exact Nat.zero_le _ | exact Nat.le_of_ble_eq_true rfl | omega)); (conv => whnf))
      | ((with_reducible refine @And.intro (@LT.lt Nat _ _ _) _ ?_ ?_); (· omega); (conv => whnf))
      | ((with_reducible refine @And.intro (∃ _, _ = _) _ ?_ ?_); (· exact ⟨_, rfl⟩); (conv => whnf))
      | ((with_reducible refine @And.intro (_ ∨ _) _ ?_ ?_); (· (first | exact Or.inl rfl | exact Or.inr rfl | exact t_b01 _ | assumption)); (conv => whnf))
      | ((with_reducible refine @And.intro (¬ (_ = _)) _ ?_ ?_); (· first | assumption | (with_reducible assumption)); (conv => whnf))
      | (refine hX _ _ _ _ _ _ ?_; (conv => whnf); fail_if_success show False)
      | (rw [t_si]; (conv => whnf))
      | (refine ⟨_, rfl, ?_⟩; (conv => whnf))
      | (refine ⟨_, _, rfl, ?_⟩; (conv => whnf))
      | (refine ⟨_, _, _, rfl, ?_⟩; (conv => whnf))
      | (refine ⟨_, _, _, _, rfl, ?_⟩; (conv => whnf))
      | (rw [hin']; (conv => whnf))
      | (refine And.intro (fun c => ?_) (fun c => ?_) <;> (first | (exact absurd c (by decide +kernel)) | (exact absurd c (by assumption)) | (exact False.elim (c (by assumption))) | (conv => whnf)))
      | fail)
    exact t_ref' hQ hg h01 (by simp [f1]) (by decide) rfl rfl
  | true =>
    have hin' : t_in m (Int32.ofInt 0) ((tW J).2.1 0 1) = true := by rw [xl_n.1]; exact hin
    rw [hin, g_ck_t] at hQ
    obtain ⟨n, rfl, hn⟩ : ∃ n, m = nI n ∧ n ≤ t_tp J := by
      rw [htp] at hin
      unfold t_in at hin
      rw [Bool.and_eq_true, decide_eq_true_eq, decide_eq_true_eq] at hin
      obtain ⟨j, hj, rfl⟩ := nI_of2 (n := t_tp J) (nI_toInt (by omega)) (Int32.not_lt.mpr (by rw [← nI_0]; exact hin.1)) hin.2
      exact ⟨j, rfl, hj⟩
    rw [nI_clamp (by omega)] at hQ
    obtain ⟨R, hR⟩ : ∃ R, R = p_fam (gfed (tG J)) n := ⟨_, rfl⟩
    rw [← hR] at hQ
    have hf : ∀ k, k < n → gfed (tG J) k = J 9 k := fun k hk => if_pos (by omega)
    generalize gfed (tG J) = f at hR hf
    have end1 : ∀ M e, (∀ b, b ≠ 0 → ¬ t_rr b → M b = J b) → (∀ k, k ≠ 1 → k ≠ 2 → k ≠ 4 → k ≠ 5 → k ≠ 6 → k ≠ 7 → k ≠ 8 → M 0 k = J 0 k) → M 0 1 = nI 0 → t_ps M n (.inl e) → .inl e = R → X 42 [some (.ref 0), some (.int (nI n))] [] (tW M) 0 0 := by
      intro M e h1 h2 h3 hp he
      obtain ⟨c0, q⟩ := e
      subst he
      obtain ⟨p5, pn, p6, -⟩ := hp
      have h5 : ¬ M 0 5 = 0 := by rw [p5, ← nI_0]; exact pn
      have wo : ∀ b, b ≠ 0 → xm_u2 M 0 3 (nI q) b = M b := fun b hb => funext fun j => xm_u2_ne hb j
      have w0 : ∀ k, k ≠ 3 → xm_u2 M 0 3 (nI q) 0 k = M 0 k := fun k hk => by rw [xm_u2_at, if_neg hk]
      have ob : ∀ b, b ≠ 0 → ¬ t_rr b → xm_u2 M 0 3 (nI q) b = J b := fun b hb hn => (wo b hb).trans (h1 b hb hn)
      have of : ∀ k, k ≠ 1 → k ≠ 2 → k ≠ 3 → k ≠ 4 → k ≠ 5 → k ≠ 6 → k ≠ 7 → k ≠ 8 → xm_u2 M 0 3 (nI q) 0 k = J 0 k := fun k a1 a2 a3 a4 a5 a6 a7 a8 => (w0 k a3).trans (h2 k a1 a2 a4 a5 a6 a7 a8)
      have o3 : xm_u2 M 0 3 (nI q) 0 3 = nI q := rfl
      have o1 : xm_u2 M 0 3 (nI q) 0 1 = nI 0 := (w0 1 (by decide)).trans h3
      have hw : tW (xm_u2 M 0 3 (M 0 6)) = tW (xm_u2 M 0 3 (nI q)) := by rw [p6]
      generalize xm_u2 M 0 3 (nI q) = W at ob of o3 o1 hw
      have ss : t_same J W := ⟨fun b hb => ob b (by omega) (by unfold t_rr; omega), of 27 (by decide) (by decide) (by decide) (by decide) (by decide) (by decide) (by decide) (by decide), of 41 (by decide) (by decide) (by decide) (by decide) (by decide) (by decide) (by decide) (by decide), of 45 (by decide) (by decide) (by decide) (by decide) (by decide) (by decide) (by decide) (by decide)⟩
      have e43 : W 0 43 = J 0 43 := of 43 (by decide) (by decide) (by decide) (by decide) (by decide) (by decide) (by decide) (by decide)
      have ei : t_im W = t_im J := by unfold t_im; rw [e43]
      have el : t_l W = t_l J := by unfold t_l; rw [ss.2.2.1]
      have et : t_tp W = 0 := t_tp_of o1 (by decide)
      have gW : t_good W := ss.good hg (by rw [ei, e43]; exact hg.2.2.2.2.1) (by rw [et]; exact ⟨o1, by decide⟩)
      have a : ∀ r, (r = 36 ∨ r = 37 ∨ r = 38 ∨ 639 < r) → tA W r = tA J r := fun r hr => tA_eq fun k _ => by rw [ob r (by omega) (by unfold t_rr; omega)]
      have eG : tG W = g_flt (tG J) q := by
        unfold tG g_flt g_setN
        rw [ss.K hg, ss.X hg]
        unfold tN
        have e1' : ∀ k, tA W (640 + k) = tA J (640 + k) := fun k => a _ (by omega)
        have e2' : ∀ k, W (600 + k) = J (600 + k) := fun k => ob _ (by omega) (by unfold t_rr; omega)
        rw [ei, el, et, a 36 (by omega), a 37 (by omega), a 38 (by omega), o3, of 42 (by decide) (by decide) (by decide) (by decide) (by decide) (by decide) (by decide) (by decide), ob 10 (by decide) (by unfold t_rr; omega)]
        simp only [e1', e2', Nat.not_lt_zero, if_false]
      have hfin := hQ W gW eG ((of 0 (by decide) (by decide) (by decide) (by decide) (by decide) (by decide) (by decide) (by decide)).trans h01)
      refine hG _ _ _ _ _ _ ?_
      (conv => whnf)
      repeat' (first
        | ((with_reducible refine @And.intro (vp_in _ _) _ ?_ ?_); (· (first | with_reducible assumption | ((with_reducible refine t_vin ?_); decide) | ((with_reducible refine vp_in_nI ?_ ?_) <;> first | omega | decide) | (simp (disch := omega) only [xl_n, xl_m, nI_dec, nI_sb, nI_add, pk_mul]; (with_reducible refine vp_in_nI ?_ ?_) <;> first | omega | decide))); (conv => whnf))
        | (refine And.intro (by first | with_reducible assumption | exact (show tL _ = _ from rfl) | decide) ?_; (conv => whnf))
        | ((with_reducible refine @And.intro (_ = _) _ ?_ ?_); (· rfl); (conv => whnf))
        | ((with_reducible refine @And.intro (@LE.le Nat _ _ _) _ ?_ ?_); (· (first | exact Nat.zero_le _ | exact Nat.le_of_ble_eq_true rfl | omega)); (conv => whnf))
        | ((with_reducible refine @And.intro (@LT.lt Nat _ _ _) _ ?_ ?_); (· omega); (conv => whnf))
        | ((with_reducible refine @And.intro (∃ _, _ = _) _ ?_ ?_); (· exact ⟨_, rfl⟩); (conv => whnf))
        | ((with_reducible refine @And.intro (_ ∨ _) _ ?_ ?_); (· (first | exact Or.inl rfl | exact Or.inr rfl | exact t_b01 _ | assumption)); (conv => whnf))
        | ((with_reducible refine @And.intro (¬ (_ = _)) _ ?_ ?_); (· first | assumption | (with_reducible assumption)); (conv => whnf))
        | (refine hX _ _ _ _ _ _ ?_; (conv => whnf); fail_if_success show False)
        | (rw [t_si]; (conv => whnf))
        | (refine ⟨_, rfl, ?_⟩; (conv => whnf))
        | (refine ⟨_, _, rfl, ?_⟩; (conv => whnf))
        | (refine ⟨_, _, _, rfl, ?_⟩; (conv => whnf))
        | (refine ⟨_, _, _, _, rfl, ?_⟩; (conv => whnf))
        | (refine And.intro (fun c => ?_) (fun c => ?_) <;> (first | (exact absurd c (by decide +kernel)) | (exact absurd c (by assumption)) | (exact False.elim (c (by assumption))) | (conv => whnf)))
        | fail)
      rw [p5, hw]
      exact hfin
    have end2 : ∀ M F k, (∀ b, b ≠ 0 → ¬ t_rr b → M b = J b) → (∀ k, k ≠ 1 → k ≠ 2 → k ≠ 4 → k ≠ 5 → k ≠ 6 → k ≠ 7 → k ≠ 8 → M 0 k = J 0 k) → M 0 1 = nI 0 → t_tx M f n → t_ps M n (.inr k) → ¬ k < n → t_inv F → t_rea M F → .inr (F, k) = R → X 42 [some (.ref 0), some (.int (nI n))] [] (tW M) 0 0 := by
      intro M F k h1 h2 h3 htM hp hk hiF hrM hR
      subst hR
      obtain ⟨h5n, h4, hkn⟩ := t_ps_n hp
      have h5 := t_ps_0 hp
      have hlt : M 0 2 ≤ M 0 4 := by rw [htM.1, h4]; exact nI_le (by omega) (by omega)
      have hfk := hiF.1
      have hm6 : ∀ a, a < f_a F → f_m F a ≤ 6 := fun a ha => by
        obtain ⟨m, hm, e, -⟩ := hiF.2 a ha
        unfold f_m
        rw [e, nI_clamp (by omega)]
        exact hm
      have hr3 : t_rea (xm_u2 M 0 3 nM) F := fun b k hb => by
        by_cases q : b = 0
        · have := f_in_0 hb q
          subst this
          rw [q, xm_u2_at, if_neg (by decide)]
          exact q ▸ hrM b 7 hb
        · rw [xm_u2_ne q]
          exact hrM b k hb
      have stood : ∀ W, (∀ b, b ≠ 0 → ¬ t_stD b → W b = xm_u2 M 0 3 nM b) → (∀ k, k ≠ 27 → k ≠ 41 → k ≠ 42 → k ≠ 43 → W 0 k = xm_u2 M 0 3 nM 0 k) → W 0 27 = nI 0 → W 0 41 = nI 0 → W 0 42 = nI 0 → W 0 43 = nI 0 → (∀ b k, (t_st14 F 8 b k ∨ ((b = 36 ∨ b = 37 ∨ b = 38) ∧ k < 107)) → W b k = t_std F b k) → t_good W ∧ tG W = p_stood (tG J) F := by
        intro W w1 w2 w27 w41 w42 w43 w7
        have o0 : ∀ k, k ≠ 3 → xm_u2 M 0 3 nM 0 k = M 0 k := fun k hk => by rw [xm_u2_at, if_neg hk]
        have w45 : W 0 45 = nI 0 := (w2 45 (by decide) (by decide) (by decide) (by decide)).trans ((o0 45 (by decide)).trans ((h2 45 (by decide) (by decide) (by decide) (by decide) (by decide) (by decide) (by decide)).trans hg.2.2.1))
        have w01 : W 0 1 = nI 0 := (w2 1 (by decide) (by decide) (by decide) (by decide)).trans ((o0 1 (by decide)).trans h3)
        have w03 : W 0 3 = nM := (w2 3 (by decide) (by decide) (by decide) (by decide)).trans (by rw [xm_u2_at, if_pos rfl])
        have w10 : W 10 = J 10 := (w1 10 (by decide) (by unfold t_stD; omega)).trans ((funext fun j => xm_u2_ne (by decide) j : xm_u2 M 0 3 nM 10 = M 10).trans (h1 10 (by decide) (by unfold t_rr; omega)))
        obtain ⟨hcn, gW⟩ := t_stood_good hiF w27 w41 w43 w45 w01 w7
        exact ⟨gW, t_stood_G hiF w27 w41 w42 w43 w01 w03 (by rw [w10]; rfl) w7 hcn⟩
      refine hG _ _ _ _ _ _ ?_
      (conv => whnf)
      repeat' (first
        | ((with_reducible refine @And.intro (vp_in _ _) _ ?_ ?_); (· (first | with_reducible assumption | ((with_reducible refine t_vin ?_); decide) | ((with_reducible refine vp_in_nI ?_ ?_) <;> first | omega | decide) | (simp (disch := omega) only [xl_n, xl_m, nI_dec, nI_sb, nI_add, pk_mul]; (with_reducible refine vp_in_nI ?_ ?_) <;> first | omega | decide))); (conv => whnf))
        | (refine And.intro (by first | with_reducible assumption | exact (show tL _ = _ from rfl) | decide) ?_; (conv => whnf))
        | ((with_reducible refine @And.intro (_ = _) _ ?_ ?_); (· rfl); (conv => whnf))
        | ((with_reducible refine @And.intro (@LE.le Nat _ _ _) _ ?_ ?_); (· (first | exact Nat.zero_le _ | exact Nat.le_of_ble_eq_true rfl | omega)); (conv => whnf))
        | ((with_reducible refine @And.intro (@LT.lt Nat _ _ _) _ ?_ ?_); (· omega); (conv => whnf))
        | ((with_reducible refine @And.intro (∃ _, _ = _) _ ?_ ?_); (· exact ⟨_, rfl⟩); (conv => whnf))
        | ((with_reducible refine @And.intro (_ ∨ _) _ ?_ ?_); (· (first | exact Or.inl rfl | exact Or.inr rfl | exact t_b01 _ | assumption)); (conv => whnf))
        | ((with_reducible refine @And.intro (¬ (_ = _)) _ ?_ ?_); (· first | assumption | (with_reducible assumption)); (conv => whnf))
        | (refine hX _ _ _ _ _ _ ?_; (conv => whnf); fail_if_success show False)
        | (rw [t_si]; (conv => whnf))
        | (refine ⟨_, rfl, ?_⟩; (conv => whnf))
        | (refine ⟨_, _, rfl, ?_⟩; (conv => whnf))
        | (refine ⟨_, _, _, rfl, ?_⟩; (conv => whnf))
        | (refine ⟨_, _, _, _, rfl, ?_⟩; (conv => whnf))
        | (refine And.intro (fun c => ?_) (fun c => ?_) <;> (first | (exact absurd c (by decide +kernel)) | (exact absurd c (by assumption)) | (exact False.elim (c (by assumption))) | (conv => whnf)))
        | fail)
      rw [show Int32.ofInt (-1) = nM by decide +kernel]
      refine ⟨F, hfk, hm6, hr3, ?_⟩
      intro W w1 w2 w3 w4 w5 w6 w7
      obtain ⟨gW, eG⟩ := stood W w1 w2 w3 w4 w5 w6 w7
      have e12 : W 12 1 = F 11 1 := (w7 12 1 (Or.inl (Or.inl (Or.inl (Or.inl (Or.inl ⟨rfl, by decide⟩)))))).trans rfl
      have hfin := hQ W gW eG ((w2 0 (by decide) (by decide) (by decide) (by decide)).trans ((show xm_u2 M 0 3 nM 0 0 = M 0 0 by rw [xm_u2_at, if_neg (by decide)]).trans ((h2 0 (by decide) (by decide) (by decide) (by decide) (by decide) (by decide) (by decide)).trans h01)))
      clear stood
      (conv => whnf)
      repeat' (first
        | ((with_reducible refine @And.intro (vp_in _ _) _ ?_ ?_); (· (first | with_reducible assumption | ((with_reducible refine t_vin ?_); decide) | ((with_reducible refine vp_in_nI ?_ ?_) <;> first | omega | decide) | (simp (disch := omega) only [xl_n, xl_m, nI_dec, nI_sb, nI_add, pk_mul]; (with_reducible refine vp_in_nI ?_ ?_) <;> first | omega | decide))); (conv => whnf))
        | (refine And.intro (by first | with_reducible assumption | exact (show tL _ = _ from rfl) | decide) ?_; (conv => whnf))
        | ((with_reducible refine @And.intro (_ = _) _ ?_ ?_); (· rfl); (conv => whnf))
        | ((with_reducible refine @And.intro (@LE.le Nat _ _ _) _ ?_ ?_); (· (first | exact Nat.zero_le _ | exact Nat.le_of_ble_eq_true rfl | omega)); (conv => whnf))
        | ((with_reducible refine @And.intro (@LT.lt Nat _ _ _) _ ?_ ?_); (· omega); (conv => whnf))
        | ((with_reducible refine @And.intro (∃ _, _ = _) _ ?_ ?_); (· exact ⟨_, rfl⟩); (conv => whnf))
        | ((with_reducible refine @And.intro (_ ∨ _) _ ?_ ?_); (· (first | exact Or.inl rfl | exact Or.inr rfl | exact t_b01 _ | assumption)); (conv => whnf))
        | ((with_reducible refine @And.intro (¬ (_ = _)) _ ?_ ?_); (· first | assumption | (with_reducible assumption)); (conv => whnf))
        | (refine hX _ _ _ _ _ _ ?_; (conv => whnf); fail_if_success show False)
        | (rw [t_si]; (conv => whnf))
        | (refine ⟨_, rfl, ?_⟩; (conv => whnf))
        | (refine ⟨_, _, rfl, ?_⟩; (conv => whnf))
        | (refine ⟨_, _, _, rfl, ?_⟩; (conv => whnf))
        | (refine ⟨_, _, _, _, rfl, ?_⟩; (conv => whnf))
        | (refine And.intro (fun c => ?_) (fun c => ?_) <;> (first | (exact absurd c (by decide +kernel)) | (conv => whnf)))
        | fail)
      exact t_q hfin e12
    have step : ∀ u cl, cl + u = 60 → (u ≠ 0 → ∀ M F k, (∀ b, b ≠ 0 → ¬ t_rr b → M b = J b) → (∀ k, k ≠ 1 → k ≠ 2 → k ≠ 4 → k ≠ 5 → k ≠ 6 → k ≠ 7 → k ≠ 8 → M 0 k = J 0 k) → M 0 1 = nI 0 → t_tx M f n → t_ps M n (.inr k) → F 0 7 = nI (cl + 1) → t_inv F → t_rea M F → p_famF f n u F k = R → X 42 [some (.ref 0), some (.int (nI n))] [] (tW M) 0 0) → ∀ M F k, (∀ b, b ≠ 0 → ¬ t_rr b → M b = J b) → (∀ k, k ≠ 1 → k ≠ 2 → k ≠ 4 → k ≠ 5 → k ≠ 6 → k ≠ 7 → k ≠ 8 → M 0 k = J 0 k) → M 0 1 = nI 0 → t_tx M f n → t_ps M n (.inr k) → F 0 7 = nI cl → t_inv F → t_rea M F → p_famF f n (u + 1) F k = R → X 42 [some (.ref 0), some (.int (nI n))] [] (tW M) 0 0 := by
      intro u cl hc ih M F k h1 h2 h3 htM hp hF7 hiF hrM hR
      unfold p_famF at hR
      by_cases hk : k < n
      · rw [if_pos hk] at hR
        obtain ⟨h5n, h4, hkn⟩ := t_ps_n hp
        have h5 := t_ps_0 hp
        have hfk := hiF.1
        have hlt : ¬ M 0 2 ≤ M 0 4 := by rw [htM.1, h4]; exact nI_ge hk (by omega)
        clear end2
        refine hG _ _ _ _ _ _ ?_
        (conv => whnf)
        repeat' (first
          | ((with_reducible refine @And.intro (vp_in _ _) _ ?_ ?_); (· (first | with_reducible assumption | ((with_reducible refine t_vin ?_); decide) | ((with_reducible refine vp_in_nI ?_ ?_) <;> first | omega | decide) | (simp (disch := omega) only [xl_n, xl_m, nI_dec, nI_sb, nI_add, pk_mul]; (with_reducible refine vp_in_nI ?_ ?_) <;> first | omega | decide))); (conv => whnf))
          | (refine And.intro (by first | with_reducible assumption | exact (show tL _ = _ from rfl) | decide) ?_; (conv => whnf))
          | ((with_reducible refine @And.intro (_ = _) _ ?_ ?_); (· rfl); (conv => whnf))
          | ((with_reducible refine @And.intro (@LE.le Nat _ _ _) _ ?_ ?_); (· (first | exact Nat.zero_le _ | exact Nat.le_of_ble_eq_true rfl | omega)); (conv => whnf))
          | ((with_reducible refine @And.intro (@LT.lt Nat _ _ _) _ ?_ ?_); (· omega); (conv => whnf))
          | ((with_reducible refine @And.intro (∃ _, _ = _) _ ?_ ?_); (· exact ⟨_, rfl⟩); (conv => whnf))
          | ((with_reducible refine @And.intro (_ ∨ _) _ ?_ ?_); (· (first | exact Or.inl rfl | exact Or.inr rfl | exact t_b01 _ | assumption)); (conv => whnf))
          | ((with_reducible refine @And.intro (¬ (_ = _)) _ ?_ ?_); (· first | assumption | (with_reducible assumption)); (conv => whnf))
          | (refine hX _ _ _ _ _ _ ?_; (conv => whnf); fail_if_success show False)
          | (rw [t_si]; (conv => whnf))
          | (refine ⟨_, rfl, ?_⟩; (conv => whnf))
          | (refine ⟨_, _, rfl, ?_⟩; (conv => whnf))
          | (refine ⟨_, _, _, rfl, ?_⟩; (conv => whnf))
          | (refine ⟨_, _, _, _, rfl, ?_⟩; (conv => whnf))
          | (refine ⟨_, _, (by with_reducible assumption), ?_⟩; (conv => whnf))
          | (refine ⟨_, (by first | with_reducible assumption | exact rfl), ?_⟩; (conv => whnf))
          | (refine And.intro (fun c => ?_) (fun c => ?_) <;> (first | (exact absurd c (by decide +kernel)) | (exact absurd c (by assumption)) | (exact False.elim (c (by assumption))) | (conv => whnf)))
          | fail)
        intro M2 hM2 ho
        have htM2 := hM2.tx htM
        have g1 : ∀ b, b ≠ 0 → ¬ t_rr b → M2 b = J b := fun b hb hn => (hM2.1 b hb hn).trans (h1 b hb hn)
        have g2 : ∀ k, k ≠ 1 → k ≠ 2 → k ≠ 4 → k ≠ 5 → k ≠ 6 → k ≠ 7 → k ≠ 8 → M2 0 k = J 0 k := fun k q1 q2 q4 q5 q6 q7 q8 => (hM2.2 k q4 q5 q6 q7).trans (h2 k q1 q2 q4 q5 q6 q7 q8)
        have g3 : M2 0 1 = nI 0 := (hM2.2 1 (by decide) (by decide) (by decide) (by decide)).trans h3
        (conv => whnf)
        cases hq : p_clause f n F k with
        | inl e =>
          rw [hq] at hR ho
          have ho : t_ps M2 n (.inl e) := ho
          obtain ⟨k2, hk2, h42⟩ := t_ps_at ho
          have hW : t_pf M2 (xm_u2 M2 0 4 (nI (p_bl f n k2))) := t_pf.u (Or.inl rfl)
          have := end1 (xm_u2 M2 0 4 (nI (p_bl f n k2))) e (fun b hb hn => (hW.1 b hb).trans (g1 b hb hn)) (fun k q1 q2 q4 q5 q6 q7 q8 => (hW.2 k q4 q5 q6).trans (g2 k q1 q2 q4 q5 q6 q7 q8)) ((hW.2 1 (by decide) (by decide) (by decide)).trans g3) (by
            obtain ⟨cc, q⟩ := e
            exact ⟨by rw [xm_u2_at, if_neg (by decide)]; exact ho.1, ho.2.1, by rw [xm_u2_at, if_neg (by decide)]; exact ho.2.2.1, _, (p_bl_in (f := f) hk2).2, rfl⟩) hR
          clear end1 ih
          repeat' (first
            | ((with_reducible refine @And.intro (vp_in _ _) _ ?_ ?_); (· (first | with_reducible assumption | ((with_reducible refine t_vin ?_); decide) | ((with_reducible refine vp_in_nI ?_ ?_) <;> first | omega | decide) | (simp (disch := omega) only [xl_n, xl_m, nI_dec, nI_sb, nI_add, pk_mul]; (with_reducible refine vp_in_nI ?_ ?_) <;> first | omega | decide))); (conv => whnf))
            | (refine And.intro (by first | with_reducible assumption | exact (show tL _ = _ from rfl) | decide) ?_; (conv => whnf))
            | ((with_reducible refine @And.intro (_ = _) _ ?_ ?_); (· rfl); (conv => whnf))
            | ((with_reducible refine @And.intro (@LE.le Nat _ _ _) _ ?_ ?_); (· (first | exact Nat.zero_le _ | exact Nat.le_of_ble_eq_true rfl | omega)); (conv => whnf))
            | ((with_reducible refine @And.intro (@LT.lt Nat _ _ _) _ ?_ ?_); (· omega); (conv => whnf))
            | ((with_reducible refine @And.intro (∃ _, _ = _) _ ?_ ?_); (· exact ⟨_, rfl⟩); (conv => whnf))
            | ((with_reducible refine @And.intro (_ ∨ _) _ ?_ ?_); (· (first | exact Or.inl rfl | exact Or.inr rfl | exact t_b01 _ | assumption)); (conv => whnf))
            | ((with_reducible refine @And.intro (¬ (_ = _)) _ ?_ ?_); (· first | assumption | (with_reducible assumption)); (conv => whnf))
            | (refine hX _ _ _ _ _ _ ?_; (conv => whnf); fail_if_success show False)
            | (rw [t_si]; (conv => whnf))
            | (refine ⟨_, rfl, ?_⟩; (conv => whnf))
            | (refine ⟨_, _, rfl, ?_⟩; (conv => whnf))
            | (refine ⟨_, _, _, rfl, ?_⟩; (conv => whnf))
            | (refine ⟨_, _, _, _, rfl, ?_⟩; (conv => whnf))
            | (refine ⟨_, _, (by with_reducible assumption), ?_⟩; (conv => whnf))
            | (refine ⟨_, (by first | with_reducible assumption | exact rfl), ?_⟩; (conv => whnf))
            | (refine And.intro (fun c => ?_) (fun c => ?_) <;> (first | (exact absurd c (by decide +kernel)) | (exact absurd c (by assumption)) | (exact False.elim (c (by assumption))) | (conv => whnf)))
            | fail)
          exact this
        | inr e =>
          obtain ⟨F2, k2⟩ := e
          rw [hq] at hR ho
          have hR : p_famF f n u F2 (p_bl f n k2) = R := hR
          obtain ⟨ho1, ho2⟩ := ho
          obtain ⟨-, h42, hk2⟩ := t_ps_n ho1
          obtain ⟨e7, n60⟩ := p_clause_7 hq
          have hW : t_pf M2 (xm_u2 M2 0 4 (nI (p_bl f n k2))) := t_pf.u (Or.inl rfl)
          have := ih (fun q => n60 (hF7.trans (congrArg nI (show cl = 60 by omega)))) (xm_u2 M2 0 4 (nI (p_bl f n k2))) F2 _ (fun b hb hn => (hW.1 b hb).trans (g1 b hb hn)) (fun k q1 q2 q4 q5 q6 q7 q8 => (hW.2 k q4 q5 q6).trans (g2 k q1 q2 q4 q5 q6 q7 q8)) ((hW.2 1 (by decide) (by decide) (by decide)).trans g3) (hW.tx htM2) (t_ps_bl ho1) (by rw [e7, hF7, nI_add]) (p_clause_i hiF hkn hq) (hW.d ho2) hR
          clear end1 ih
          repeat' (first
            | ((with_reducible refine @And.intro (vp_in _ _) _ ?_ ?_); (· (first | with_reducible assumption | ((with_reducible refine t_vin ?_); decide) | ((with_reducible refine vp_in_nI ?_ ?_) <;> first | omega | decide) | (simp (disch := omega) only [xl_n, xl_m, nI_dec, nI_sb, nI_add, pk_mul]; (with_reducible refine vp_in_nI ?_ ?_) <;> first | omega | decide))); (conv => whnf))
            | (refine And.intro (by first | with_reducible assumption | exact (show tL _ = _ from rfl) | decide) ?_; (conv => whnf))
            | ((with_reducible refine @And.intro (_ = _) _ ?_ ?_); (· rfl); (conv => whnf))
            | ((with_reducible refine @And.intro (@LE.le Nat _ _ _) _ ?_ ?_); (· (first | exact Nat.zero_le _ | exact Nat.le_of_ble_eq_true rfl | omega)); (conv => whnf))
            | ((with_reducible refine @And.intro (@LT.lt Nat _ _ _) _ ?_ ?_); (· omega); (conv => whnf))
            | ((with_reducible refine @And.intro (∃ _, _ = _) _ ?_ ?_); (· exact ⟨_, rfl⟩); (conv => whnf))
            | ((with_reducible refine @And.intro (_ ∨ _) _ ?_ ?_); (· (first | exact Or.inl rfl | exact Or.inr rfl | exact t_b01 _ | assumption)); (conv => whnf))
            | ((with_reducible refine @And.intro (¬ (_ = _)) _ ?_ ?_); (· first | assumption | (with_reducible assumption)); (conv => whnf))
            | (refine hX _ _ _ _ _ _ ?_; (conv => whnf); fail_if_success show False)
            | (rw [t_si]; (conv => whnf))
            | (refine ⟨_, rfl, ?_⟩; (conv => whnf))
            | (refine ⟨_, _, rfl, ?_⟩; (conv => whnf))
            | (refine ⟨_, _, _, rfl, ?_⟩; (conv => whnf))
            | (refine ⟨_, _, _, _, rfl, ?_⟩; (conv => whnf))
            | (refine ⟨_, _, (by with_reducible assumption), ?_⟩; (conv => whnf))
            | (refine ⟨_, (by first | with_reducible assumption | exact rfl), ?_⟩; (conv => whnf))
            | (refine And.intro (fun c => ?_) (fun c => ?_) <;> (first | (exact absurd c (by decide +kernel)) | (exact absurd c (by assumption)) | (exact False.elim (c (by assumption))) | (conv => whnf)))
            | fail)
          exact this
      · rw [if_neg hk] at hR
        exact end2 M F k h1 h2 h3 htM hp hk hiF hrM hR
    have loop : ∀ u cl, cl + u = 60 → ∀ M F k, (∀ b, b ≠ 0 → ¬ t_rr b → M b = J b) → (∀ k, k ≠ 1 → k ≠ 2 → k ≠ 4 → k ≠ 5 → k ≠ 6 → k ≠ 7 → k ≠ 8 → M 0 k = J 0 k) → M 0 1 = nI 0 → t_tx M f n → t_ps M n (.inr k) → F 0 7 = nI cl → t_inv F → t_rea M F → p_famF f n (u + 1) F k = R → X 42 [some (.ref 0), some (.int (nI n))] [] (tW M) 0 0 := by
      intro u
      induction u with
      | zero => exact fun cl hc => step 0 cl hc (fun q => absurd rfl q)
      | succ u ih => exact fun cl hc => step (u + 1) cl hc (fun _ => ih (cl + 1) (by omega))
    repeat' (first
      | ((with_reducible refine @And.intro (vp_in _ _) _ ?_ ?_); (· (first | with_reducible assumption | ((with_reducible refine t_vin ?_); decide) | ((with_reducible refine vp_in_nI ?_ ?_) <;> first | omega | decide) | (simp (disch := omega) only [xl_n, xl_m, nI_dec, nI_sb, nI_add, pk_mul]; (with_reducible refine vp_in_nI ?_ ?_) <;> first | omega | decide))); (conv => whnf))
      | (refine And.intro (by first | with_reducible assumption | exact (show tL _ = _ from rfl) | decide) ?_; (conv => whnf))
      | ((with_reducible refine @And.intro (_ = _) _ ?_ ?_); (· rfl); (conv => whnf))
      | ((with_reducible refine @And.intro (@LE.le Nat _ _ _) _ ?_ ?_); (· (first | exact Nat.zero_le _ | exact Nat.le_of_ble_eq_true rfl | omega)); (conv => whnf))
      | ((with_reducible refine @And.intro (@LT.lt Nat _ _ _) _ ?_ ?_); (· omega); (conv => whnf))
      | ((with_reducible refine @And.intro (∃ _, _ = _) _ ?_ ?_); (· exact ⟨_, rfl⟩); (conv => whnf))
      | ((with_reducible refine @And.intro (_ ∨ _) _ ?_ ?_); (· (first | exact Or.inl rfl | exact Or.inr rfl | exact t_b01 _ | assumption)); (conv => whnf))
      | ((with_reducible refine @And.intro (¬ (_ = _)) _ ?_ ?_); (· first | assumption | (with_reducible assumption)); (conv => whnf))
      | (refine hX _ _ _ _ _ _ ?_; (conv => whnf); fail_if_success show False)
      | (rw [t_si]; (conv => whnf))
      | (refine ⟨_, rfl, ?_⟩; (conv => whnf))
      | (refine ⟨_, _, rfl, ?_⟩; (conv => whnf))
      | (refine ⟨_, _, _, rfl, ?_⟩; (conv => whnf))
      | (refine ⟨_, _, _, _, rfl, ?_⟩; (conv => whnf))
      | (rw [hin']; (conv => whnf))
      | (refine And.intro (fun c => ?_) (fun c => ?_) <;> (first | (exact absurd c (by decide +kernel)) | (exact absurd c (by assumption)) | (exact False.elim (c (by assumption))) | (conv => whnf)))
      | fail)
    intro J1 hJ1
    (conv => whnf)
    repeat' (first
      | ((with_reducible refine @And.intro (vp_in _ _) _ ?_ ?_); (· (first | with_reducible assumption | ((with_reducible refine t_vin ?_); decide) | ((with_reducible refine vp_in_nI ?_ ?_) <;> first | omega | decide) | (simp (disch := omega) only [xl_n, xl_m, nI_dec, nI_sb, nI_add, pk_mul]; (with_reducible refine vp_in_nI ?_ ?_) <;> first | omega | decide))); (conv => whnf))
      | (refine And.intro (by first | with_reducible assumption | exact (show tL _ = _ from rfl) | decide) ?_; (conv => whnf))
      | ((with_reducible refine @And.intro (_ = _) _ ?_ ?_); (· rfl); (conv => whnf))
      | ((with_reducible refine @And.intro (@LE.le Nat _ _ _) _ ?_ ?_); (· (first | exact Nat.zero_le _ | exact Nat.le_of_ble_eq_true rfl | omega)); (conv => whnf))
      | ((with_reducible refine @And.intro (@LT.lt Nat _ _ _) _ ?_ ?_); (· omega); (conv => whnf))
      | ((with_reducible refine @And.intro (∃ _, _ = _) _ ?_ ?_); (· exact ⟨_, rfl⟩); (conv => whnf))
      | ((with_reducible refine @And.intro (_ ∨ _) _ ?_ ?_); (· (first | exact Or.inl rfl | exact Or.inr rfl | exact t_b01 _ | assumption)); (conv => whnf))
      | ((with_reducible refine @And.intro (¬ (_ = _)) _ ?_ ?_); (· first | assumption | (with_reducible assumption)); (conv => whnf))
      | (refine hX _ _ _ _ _ _ ?_; (conv => whnf); fail_if_success show False)
      | (rw [t_si]; (conv => whnf))
      | (refine ⟨_, rfl, ?_⟩; (conv => whnf))
      | (refine ⟨_, _, rfl, ?_⟩; (conv => whnf))
      | (refine ⟨_, _, _, rfl, ?_⟩; (conv => whnf))
      | (refine ⟨_, _, _, _, rfl, ?_⟩; (conv => whnf))
      | (refine And.intro (fun c => ?_) (fun c => ?_) <;> (first | (exact absurd c (by decide +kernel)) | (conv => whnf)))
      | fail)
    intro J2 hJ2
    (conv => whnf)
    repeat' (first
      | ((with_reducible refine @And.intro (vp_in _ _) _ ?_ ?_); (· (first | with_reducible assumption | ((with_reducible refine t_vin ?_); decide) | ((with_reducible refine vp_in_nI ?_ ?_) <;> first | omega | decide) | (simp (disch := omega) only [xl_n, xl_m, nI_dec, nI_sb, nI_add, pk_mul]; (with_reducible refine vp_in_nI ?_ ?_) <;> first | omega | decide))); (conv => whnf))
      | (refine And.intro (by first | with_reducible assumption | exact (show tL _ = _ from rfl) | decide) ?_; (conv => whnf))
      | ((with_reducible refine @And.intro (_ = _) _ ?_ ?_); (· rfl); (conv => whnf))
      | ((with_reducible refine @And.intro (@LE.le Nat _ _ _) _ ?_ ?_); (· (first | exact Nat.zero_le _ | exact Nat.le_of_ble_eq_true rfl | omega)); (conv => whnf))
      | ((with_reducible refine @And.intro (@LT.lt Nat _ _ _) _ ?_ ?_); (· omega); (conv => whnf))
      | ((with_reducible refine @And.intro (∃ _, _ = _) _ ?_ ?_); (· exact ⟨_, rfl⟩); (conv => whnf))
      | ((with_reducible refine @And.intro (_ ∨ _) _ ?_ ?_); (· (first | exact Or.inl rfl | exact Or.inr rfl | exact t_b01 _ | assumption)); (conv => whnf))
      | ((with_reducible refine @And.intro (¬ (_ = _)) _ ?_ ?_); (· first | assumption | (with_reducible assumption)); (conv => whnf))
      | (refine hX _ _ _ _ _ _ ?_; (conv => whnf); fail_if_success show False)
      | (rw [t_si]; (conv => whnf))
      | (refine ⟨_, rfl, ?_⟩; (conv => whnf))
      | (refine ⟨_, _, rfl, ?_⟩; (conv => whnf))
      | (refine ⟨_, _, _, rfl, ?_⟩; (conv => whnf))
      | (refine ⟨_, _, _, _, rfl, ?_⟩; (conv => whnf))
      | (refine And.intro (fun c => ?_) (fun c => ?_) <;> (first | (exact absurd c (by decide +kernel)) | (conv => whnf)))
      | fail)
    clear hX hG step end1 end2
    obtain ⟨b1, b2, b3, b4, b5, b6, b7, b8, b9⟩ := hJ1
    have d0 : ¬ t_tnD 0 := by unfold t_tnD; omega
    have d9 : ¬ t_tnD 9 := by unfold t_tnD; omega
    have z0 : ∀ k, J2 0 k = J1 0 k := fun k => congrFun (hJ2.1 0 d0) k
    refine loop 60 0 rfl J2 f_0 (p_bl f n 0) (fun b hb hn => ?_) (fun k q1 q2 q4 q5 q6 q7 q8 => ?_) ((z0 1).trans b3) ⟨(z0 2).trans b4, by omega, fun k hk => ?_⟩ ⟨(z0 5).trans b6, ?_, (p_bl_in (Nat.zero_le _)).2⟩ rfl f_0_inv (fun b k hk => ?_) hR.symm
    · rw [hJ2.1 b (fun q => hn (by unfold t_tnD at q; unfold t_rr; omega)), b1 b hb]
    · rw [z0, b2 k q1 q2 q4 q5 q6 q7 q8]
    · rw [hJ2.1 9 d9, b1 9 (by decide), hf k hk]
    · rw [z0 4, b5]
      exact congrArg nI (p_sk_eq fun k hk => (hf k hk).symm)
    · have eh : f_h f_0 = 0 := by decide +kernel
      have ep : f_p f_0 = 0 := by decide +kernel
      have ea : f_a f_0 = 0 := by decide +kernel
      unfold f_in at hk
      rw [eh, ep, ea] at hk
      rcases hk with hk | hk | hk | hk | ⟨_, _, hk⟩ | ⟨_, _, hk⟩ | ⟨_, _, hk⟩ | ⟨_, rfl, hk1, hk2⟩
      · rw [hk.1, hk.2, z0, b8]
        rfl
      · exact hJ2.2 b k (Or.inl (Or.inl hk))
      · exact hJ2.2 b k (Or.inr hk)
      · exact hJ2.2 b k (Or.inl (Or.inr (Or.inl hk)))
      · omega
      · omega
      · omega
      · exact hJ2.2 _ k (Or.inl (Or.inr (Or.inr ⟨by omega, by omega, hk2⟩)))
theorem ct_X11_family {Iv : xI} (hI : xm_good Iv) : xm_Ct Iv yX11_family (ws_ yX11_family cX11_family 2 (some .int)) 7 0 0 S_X11_family := xm_enter (rt := 0) (init := false) (by decide +kernel) rfl (fun h => by cases h) (Or.inl ⟨rfl, rfl⟩) (oX11_family hI) body_X11_family
theorem cv_X11_family {Iv : xI} {own : String} {cc : ByteArray} {fr pc idx : Nat} (hI : xm_good Iv) (hdg : decode cc pc = .ok (.invokevirtual idx, 3)) (hl : xm_ml own idx yX11_family) (hfr : 7 < fr) : xm_CallOK Iv own cc fr pc (pc + 3) 2 0 0 (xm_this 8 S_X11_family) := xm_callV 8 hI (ct_X11_family hI) hdg hl q2134 q2135 q145 q2136 rfl rfl (by decide +kernel) hfr (by decide)
