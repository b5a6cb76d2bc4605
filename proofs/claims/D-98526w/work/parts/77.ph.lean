/-! ===== the reference: works, quarrel ===== -/
set_option maxRecDepth 100000
theorem p_nf {b : Bool} (h : ¬ b = false) : b = true := by cases b <;> simp_all
theorem p_tf {b : Bool} (h : b = true) (h2 : b = false) : False := by rw [h] at h2; cases h2
theorem p_number_n {f : Nat → Int32} {n k k' m : Nat} {v : Int32} (hm : m < 2 ^ 31) (hk : k ≤ n) (h : p_number f n (nI 0) (nI m - nI 1) k = .inr (v, k')) : ∃ j, v = nI j ∧ j < m := by
  obtain ⟨j, h1, h2⟩ := t_in_of hm (p_number_in hk h).1
  exact ⟨j, h2, h1⟩
theorem f_in_h {F : tI} {h k : Nat} (hh : h < f_h F) (hk : k < 3) : f_in F (100 + h) k := Or.inr (Or.inr (Or.inr (Or.inr (Or.inl ⟨h, rfl, hh, hk⟩))))
theorem f_in_p {F : tI} {h k : Nat} (hh : h < f_p F) (hk : k < 3) : f_in F (120 + h) k := Or.inr (Or.inr (Or.inr (Or.inr (Or.inr (Or.inl ⟨h, rfl, hh, hk⟩)))))
theorem f_in_13 {F : tI} {k : Nat} (hk : k < 8) : f_in F 13 k := Or.inr (Or.inr (Or.inl ⟨Or.inl rfl, hk⟩))
theorem f_in_15 {F : tI} {k : Nat} (hk : k < 8) : f_in F 15 k := Or.inr (Or.inr (Or.inl ⟨Or.inr rfl, hk⟩))
theorem f_in_17 {F : tI} {k : Nat} (hk : k < 9) : f_in F 17 k := Or.inr (Or.inr (Or.inr (Or.inl ⟨rfl, hk⟩)))
theorem f_in_o {F : tI} {h k : Nat} (hh : h < 9) (hk : k < 9) : f_in F (160 + h) k := Or.inr (Or.inr (Or.inr (Or.inr (Or.inr (Or.inr (Or.inr ⟨h, rfl, hh, hk⟩))))))
def p_cant (F : tI) (h p : Nat) : Bool := (!decide (F (100 + h) 1 ≤ nI 0)) || (t_has (F 13 p) h || (decide (t_ones (F 13 p) = F (120 + p) 1) || t_has (F 15 p) h))
def p_works (f : Nat → Int32) (n : Nat) (F : tI) (k : Nat) : pR tI :=
  p_bd (p_number f n (nI 0) (F 11 0 - nI 1) k) fun h k => p_bd (p_number f n (nI 0) (F 11 1 - nI 1) k) fun p k' =>
  if p_cant F h.toNatClampNeg p.toNatClampNeg = true then .inl (nI 2, p_bl f n k) else .inr (xm_u2 F 13 p.toNatClampNeg (F 13 p.toNatClampNeg ||| t_bit h.toNatClampNeg), k')
def p_quarrel (f : Nat → Int32) (n : Nat) (F : tI) (k : Nat) : pR tI :=
  p_bd (p_number f n (nI 0) (F 11 0 - nI 1) k) fun h k => p_bd (p_number f n (nI 0) (F 11 1 - nI 1) k) fun p k' =>
  if t_has (F 13 p.toNatClampNeg) h.toNatClampNeg = true then .inl (nI 2, p_bl f n k) else .inr (xm_u2 F 15 p.toNatClampNeg (F 15 p.toNatClampNeg ||| t_bit h.toNatClampNeg), k')
abbrev bX11_worksHere_0 : List xE := [(.aload_n 0, 1, 0, 0, 0), (.invokevirtual 223, 4, 0, 0, 9), (.istore_n 1, 5, 0, 0, 0), (.aload_n 0, 6, 0, 0, 0), (.getfield 150, 9, 8, 5, 0), (.ifCond .eq 4, 12, 0, 13, 0), (.return_, 13, 0, 0, 0)]
abbrev bX11_worksHere_13 : List xE := [(.aload_n 0, 14, 0, 0, 0), (.invokevirtual 236, 17, 0, 1, 9), (.istore_n 2, 18, 0, 0, 0), (.aload_n 0, 19, 0, 0, 0), (.invokevirtual 239, 22, 0, 2, 9), (.istore_n 3, 23, 0, 0, 0), (.aload_n 0, 24, 0, 0, 0), (.getfield 150, 27, 8, 5, 0), (.ifCond .ne 66, 30, 0, 93, 0), (.aload_n 0, 31, 0, 0, 0), (.getfield 46, 34, 8, 19, 1), (.iload_n 1, 35, 0, 0, 0), (.aaload, 36, 0, 0, 0), (.iconst 1, 37, 0, 0, 0), (.iaload, 38, 0, 0, 0), (.ifCond .gt 49, 41, 0, 87, 0), (.aload_n 0, 42, 0, 0, 0), (.getfield 26, 45, 8, 13, 1), (.iload_n 3, 46, 0, 0, 0), (.iaload, 47, 0, 0, 0), (.iload_n 1, 48, 0, 0, 0), (.invokestatic 242, 51, 0, 3, 9), (.ifCond .ne 36, 54, 0, 87, 0), (.aload_n 0, 55, 0, 0, 0), (.getfield 26, 58, 8, 13, 1), (.iload_n 3, 59, 0, 0, 0), (.iaload, 60, 0, 0, 0), (.invokestatic 246, 63, 0, 4, 9), (.aload_n 0, 64, 0, 0, 0), (.getfield 52, 67, 8, 21, 1), (.iload_n 3, 68, 0, 0, 0), (.aaload, 69, 0, 0, 0), (.iconst 1, 70, 0, 0, 0), (.iaload, 71, 0, 0, 0), (.if_icmp .eq 16, 74, 0, 87, 0), (.aload_n 0, 75, 0, 0, 0), (.getfield 32, 78, 8, 15, 1), (.iload_n 3, 79, 0, 0, 0), (.iaload, 80, 0, 0, 0), (.iload_n 1, 81, 0, 0, 0), (.invokestatic 242, 84, 0, 3, 9), (.ifCond .eq 9, 87, 0, 93, 0)]
abbrev bX11_worksHere_87 : List xE := [(.aload_n 0, 88, 0, 0, 0), (.iconst 2, 89, 0, 0, 0), (.iload_n 2, 90, 0, 0, 0), (.invokevirtual 163, 93, 0, 5, 9)]
abbrev bX11_worksHere_93 : List xE := [(.aload_n 0, 94, 0, 0, 0), (.getfield 150, 97, 8, 5, 0), (.ifCond .ne 15, 100, 0, 112, 0), (.aload_n 0, 101, 0, 0, 0), (.getfield 26, 104, 8, 13, 1), (.iload_n 3, 105, 0, 0, 0), (.dup2, 106, 0, 0, 0), (.iaload, 107, 0, 0, 0), (.iconst 1, 108, 0, 0, 0), (.iload_n 1, 109, 0, 0, 0), (.ishl, 110, 0, 0, 0), (.ior, 111, 0, 0, 0), (.iastore, 112, 0, 0, 0)]
abbrev bX11_worksHere_112 : List xE := [(.return_, 113, 0, 0, 0)]
abbrev kX11_worksHere : List (Nat × List xE) := [(0, bX11_worksHere_0), (13, bX11_worksHere_13), (87, bX11_worksHere_87), (93, bX11_worksHere_93), (112, bX11_worksHere_112)]
abbrev lX11_worksHere : List (Nat × Nat × Nat × xS) := [(1, 0, 0, xm_this 8 S_X11_handHere), (1, 0, 0, xm_this 8 S_X11_placeHere), (1, 0, 0, xm_this 8 S_X11_puppetHere), (2, 0, 0, S_X11_has), (1, 0, 0, S_X11_ones), (3, 0, 0, xm_this 8 S_X11_wrong)]
theorem oX11_worksHere_0 {Iv : xI} (hI : xm_good Iv)  : xm_okb Iv RX11 cX11_worksHere false 5 lX11_worksHere bX11_worksHere_0 0 := xo_0 dX11_worksHere_0 rfl trivial (xo_c rfl (cv_X11_handHere hI dX11_worksHere_1 (Or.inl q2214) (by decide)) (xo_0 dX11_worksHere_4 rfl trivial (xo_0 dX11_worksHere_5 rfl trivial (xo_0 dX11_worksHere_6 rfl (xm_fg_of (Or.inl q1960) (by decide) rfl (by decide) rfl rfl (Or.inl rfl) rfl) (xo_0 dX11_worksHere_9 rfl rfl (xo_0 dX11_worksHere_12 rfl trivial (xo_n)))))))
theorem oX11_worksHere_13 {Iv : xI} (hI : xm_good Iv)  : xm_okb Iv RX11 cX11_worksHere false 5 lX11_worksHere bX11_worksHere_13 13 := xo_0 dX11_worksHere_13 rfl trivial (xo_c rfl (cv_X11_placeHere hI dX11_worksHere_14 (Or.inl q2198) (by decide)) (xo_0 dX11_worksHere_17 rfl trivial (xo_0 dX11_worksHere_18 rfl trivial (xo_c rfl (cv_X11_puppetHere hI dX11_worksHere_19 (Or.inl q2206) (by decide)) (xo_0 dX11_worksHere_22 rfl trivial (xo_0 dX11_worksHere_23 rfl trivial (xo_0 dX11_worksHere_24 rfl (xm_fg_of (Or.inl q1960) (by decide) rfl (by decide) rfl rfl (Or.inl rfl) rfl) (xo_0 dX11_worksHere_27 rfl rfl (xo_0 dX11_worksHere_30 rfl trivial (xo_1 dX11_worksHere_31 rfl (xm_fg_of (Or.inl q1974) (by decide) rfl (by decide) rfl rfl (Or.inl rfl) rfl) (xo_0 dX11_worksHere_34 rfl trivial (xo_0 dX11_worksHere_35 rfl trivial (xo_0 dX11_worksHere_36 rfl trivial (xo_0 dX11_worksHere_37 rfl trivial (xo_0 dX11_worksHere_38 rfl rfl (xo_0 dX11_worksHere_41 rfl trivial (xo_1 dX11_worksHere_42 rfl (xm_fg_of (Or.inl q1968) (by decide) rfl (by decide) rfl rfl (Or.inl rfl) rfl) (xo_0 dX11_worksHere_45 rfl trivial (xo_0 dX11_worksHere_46 rfl trivial (xo_0 dX11_worksHere_47 rfl trivial (xo_c rfl (cv_X11_has hI dX11_worksHere_48 (Or.inl q1945) (by decide)) (xo_0 dX11_worksHere_51 rfl rfl (xo_0 dX11_worksHere_54 rfl trivial (xo_1 dX11_worksHere_55 rfl (xm_fg_of (Or.inl q1968) (by decide) rfl (by decide) rfl rfl (Or.inl rfl) rfl) (xo_0 dX11_worksHere_58 rfl trivial (xo_0 dX11_worksHere_59 rfl trivial (xo_c rfl (cv_X11_ones hI dX11_worksHere_60 (Or.inl q2218) (by decide)) (xo_0 dX11_worksHere_63 rfl trivial (xo_1 dX11_worksHere_64 rfl (xm_fg_of (Or.inl q1976) (by decide) rfl (by decide) rfl rfl (Or.inl rfl) rfl) (xo_0 dX11_worksHere_67 rfl trivial (xo_0 dX11_worksHere_68 rfl trivial (xo_0 dX11_worksHere_69 rfl trivial (xo_0 dX11_worksHere_70 rfl trivial (xo_0 dX11_worksHere_71 rfl rfl (xo_0 dX11_worksHere_74 rfl trivial (xo_1 dX11_worksHere_75 rfl (xm_fg_of (Or.inl q1970) (by decide) rfl (by decide) rfl rfl (Or.inl rfl) rfl) (xo_0 dX11_worksHere_78 rfl trivial (xo_0 dX11_worksHere_79 rfl trivial (xo_0 dX11_worksHere_80 rfl trivial (xo_c rfl (cv_X11_has hI dX11_worksHere_81 (Or.inl q1945) (by decide)) (xo_0 dX11_worksHere_84 rfl rfl (xo_n))))))))))))))))))))))))))))))))))))))))))
theorem oX11_worksHere_87 {Iv : xI} (hI : xm_good Iv)  : xm_okb Iv RX11 cX11_worksHere false 5 lX11_worksHere bX11_worksHere_87 87 := xo_0 dX11_worksHere_87 rfl trivial (xo_0 dX11_worksHere_88 rfl trivial (xo_0 dX11_worksHere_89 rfl trivial (xo_c rfl (cv_X11_wrong hI dX11_worksHere_90 (Or.inl q2178) (by decide)) (xo_n))))
theorem oX11_worksHere_93 {Iv : xI} (hI : xm_good Iv)  : xm_okb Iv RX11 cX11_worksHere false 5 lX11_worksHere bX11_worksHere_93 93 := xo_0 dX11_worksHere_93 rfl trivial (xo_0 dX11_worksHere_94 rfl (xm_fg_of (Or.inl q1960) (by decide) rfl (by decide) rfl rfl (Or.inl rfl) rfl) (xo_0 dX11_worksHere_97 rfl rfl (xo_0 dX11_worksHere_100 rfl trivial (xo_1 dX11_worksHere_101 rfl (xm_fg_of (Or.inl q1968) (by decide) rfl (by decide) rfl rfl (Or.inl rfl) rfl) (xo_0 dX11_worksHere_104 rfl trivial (xo_0 dX11_worksHere_105 rfl trivial (xo_0 dX11_worksHere_106 rfl trivial (xo_0 dX11_worksHere_107 rfl trivial (xo_0 dX11_worksHere_108 rfl trivial (xo_0 dX11_worksHere_109 rfl trivial (xo_0 dX11_worksHere_110 rfl trivial (xo_0 dX11_worksHere_111 rfl trivial (xo_n)))))))))))))
theorem oX11_worksHere_112 {Iv : xI} (hI : xm_good Iv)  : xm_okb Iv RX11 cX11_worksHere false 5 lX11_worksHere bX11_worksHere_112 112 := xo_0 dX11_worksHere_112 rfl trivial (xo_n)
theorem oX11_worksHere {Iv : xI} (hI : xm_good Iv)  : ∀ q ∈ kX11_worksHere, xm_okb Iv RX11 cX11_worksHere false 5 lX11_worksHere q.2 q.1 := by
  intro q hq
  simp only [List.mem_cons, List.not_mem_nil, or_false] at hq
  rcases hq with rfl | rfl | rfl | rfl | rfl
  · exact oX11_worksHere_0 hI  
  · exact oX11_worksHere_13 hI  
  · exact oX11_worksHere_87 hI  
  · exact oX11_worksHere_93 hI  
  · exact oX11_worksHere_112 hI  
def S_X11_worksHere : xS := tU fun as I Q => as = [.ref 0] ∧ ∃ f n, t_tx I f n ∧ ∃ k, t_ps I n (.inr k) ∧ ∃ F, t_fok F ∧ t_rea I F ∧ ∀ J, t_rf I J → t_out J n (p_works f n F k) → Q none J
theorem body_X11_worksHere : xm_Body 4 2 0 0 [] lX11_worksHere kX11_worksHere S_X11_worksHere := by
  intro X avs w Q QX hX0 hS
  have hG := xm_go [] hX0
  have hX := xm_go [] hX0
  clear hX0
  obtain ⟨I, rfl, rfl, f, n, ht, k, hp, F, hF, hr, hQ⟩ := hS
  obtain ⟨-, -, hk⟩ := t_ps_n hp
  obtain ⟨R, hR⟩ : ∃ R, R = p_works f n F k := ⟨_, rfl⟩
  rw [← hR] at hQ
  unfold p_works at hR
  have f13 : t_rr 13 := by unfold t_rr; omega
  refine ⟨rfl, ?_⟩
  repeat' (first
    | ((with_reducible refine @And.intro (vp_in _ _) _ ?_ ?_); (· (first | with_reducible assumption | ((with_reducible refine t_vin ?_); decide) | ((with_reducible refine vp_in_nI ?_ ?_) <;> first | omega | decide) | (simp (disch := omega) only [xl_n, xl_m, nI_dec, nI_sb, nI_add, pk_mul]; (with_reducible refine vp_in_nI ?_ ?_) <;> first | omega | decide))); (conv => whnf))
    | (refine And.intro (by first | with_reducible assumption | exact (show tL _ = _ from rfl) | decide) ?_; (conv => whnf))
    | ((with_reducible refine @And.intro (_ = _) _ ?_ ?_); (· rfl); (conv => whnf))
    | ((with_reducible refine @And.intro (@LE.le Nat _ _ _) _ ?_ ?_); (· (first | exact Nat.zero_le _ | exact Nat.le_of_ble_eq_true rfl | omega)); (conv => whnf))
    | ((with_reducible refine @And.intro (@LT.lt Nat _ _ _) _ ?_ ?_); (· omega); (conv => whnf))
    | ((with_reducible refine @And.intro (∃ _, _ = _) _ ?_ ?_); (· exact ⟨_, rfl⟩); (conv => whnf))
    | ((with_reducible refine @And.intro (_ ∨ _) _ ?_ ?_); (· (first | exact Or.inl rfl | exact Or.inr rfl | exact t_b01 _ | assumption)); (conv => whnf))
    | ((with_reducible refine @And.intro (¬ (_ = _)) _ ?_ ?_); (· first | assumption | (with_reducible assumption)); (conv => whnf))
    | (refine hX _ _ _ _ _ _ ?_; (conv => whnf); fail_if_success show False)
    | (rw [t_si]; (conv => whnf))
    | (refine ⟨_, rfl, ?_⟩; (conv => whnf))
    | (refine ⟨_, _, rfl, ?_⟩; (conv => whnf))
    | (refine ⟨_, _, _, rfl, ?_⟩; (conv => whnf))
    | (refine ⟨_, _, _, _, rfl, ?_⟩; (conv => whnf))
    | (refine ⟨_, _, (by with_reducible assumption), ?_⟩; (conv => whnf))
    | (refine ⟨_, (by first | with_reducible assumption | exact rfl), ?_⟩; (conv => whnf))
    | (refine And.intro (fun c => ?_) (fun c => ?_) <;> (first | (exact absurd c (by decide +kernel)) | (exact absurd c (by assumption)) | (exact False.elim (c (by assumption))) | (conv => whnf)))
    | fail)
  intro J hJ hps
  have htJ := hJ.tx ht
  have hrJ := hJ.d hr
  have hJ := hJ.r
  rw [hr.h] at hps
  rw [hr.h]
  (conv => whnf)
  cases hr0 : p_go (.inr k) (p_number f n (nI 0) (F 11 0 - nI 1)) with
  | inl e =>
    rw [hr0] at hps
    rw [show p_number f n (nI 0) (F 11 0 - nI 1) k = .inl e from hr0] at hR
    have hR : R = .inl e := hR
    subst hR
    have hps : t_ps J n (.inl e) := hps
    have h5 := t_ps_e hps
    repeat' (first
      | ((with_reducible refine @And.intro (vp_in _ _) _ ?_ ?_); (· (first | with_reducible assumption | ((with_reducible refine t_vin ?_); decide) | ((with_reducible refine vp_in_nI ?_ ?_) <;> first | omega | decide) | (simp (disch := omega) only [xl_n, xl_m, nI_dec, nI_sb, nI_add, pk_mul]; (with_reducible refine vp_in_nI ?_ ?_) <;> first | omega | decide))); (conv => whnf))
      | (refine And.intro (by first | with_reducible assumption | exact (show tL _ = _ from rfl) | decide) ?_; (conv => whnf))
      | ((with_reducible refine @And.intro (_ = _) _ ?_ ?_); (· rfl); (conv => whnf))
      | ((with_reducible refine @And.intro (@LE.le Nat _ _ _) _ ?_ ?_); (· (first | exact Nat.zero_le _ | exact Nat.le_of_ble_eq_true rfl | omega)); (conv => whnf))
      | ((with_reducible refine @And.intro (@LT.lt Nat _ _ _) _ ?_ ?_); (· omega); (conv => whnf))
      | ((with_reducible refine @And.intro (∃ _, _ = _) _ ?_ ?_); (· exact ⟨_, rfl⟩); (conv => whnf))
      | ((with_reducible refine @And.intro (_ ∨ _) _ ?_ ?_); (· (first | exact Or.inl rfl | exact Or.inr rfl | exact t_b01 _ | assumption)); (conv => whnf))
      | ((with_reducible refine @And.intro (¬ (_ = _)) _ ?_ ?_); (· first | assumption | (with_reducible assumption)); (conv => whnf))
      | (refine hX _ _ _ _ _ _ ?_; (conv => whnf); fail_if_success show False)
      | (rw [t_si]; (conv => whnf))
      | (refine ⟨_, rfl, ?_⟩; (conv => whnf))
      | (refine ⟨_, _, rfl, ?_⟩; (conv => whnf))
      | (refine ⟨_, _, _, rfl, ?_⟩; (conv => whnf))
      | (refine ⟨_, _, _, _, rfl, ?_⟩; (conv => whnf))
      | (refine ⟨_, _, (by with_reducible assumption), ?_⟩; (conv => whnf))
      | (refine ⟨_, (by first | with_reducible assumption | exact rfl), ?_⟩; (conv => whnf))
      | (refine And.intro (fun c => ?_) (fun c => ?_) <;> (first | (exact absurd c (by decide +kernel)) | (exact absurd c (by assumption)) | (exact False.elim (c (by assumption))) | (conv => whnf)))
      | fail)
    exact hQ _ hJ hps
  | inr e =>
    obtain ⟨v0, k0⟩ := e
    rw [hr0] at hps
    have hr0 : p_number f n (nI 0) (F 11 0 - nI 1) k = .inr (v0, k0) := hr0
    rw [hr0] at hR
    have hR : R = p_bd (p_number f n (nI 0) (F 11 1 - nI 1) k0) _ := hR
    rw [hF.1] at hr0
    obtain ⟨h, rfl, hh⟩ := p_number_n (by have := hF.2.1; omega) hk hr0
    have hh9 : h < 9 := Nat.lt_of_lt_of_le hh hF.2.1
    rw [nI_clamp (show h < 2 ^ 31 by omega)] at hR
    clear hr0
    have hps : t_ps J n (.inr k0) := hps
    have h5 := t_ps_0 hps
    obtain ⟨-, h4J, hk0⟩ := t_ps_n hps
    have hpsB := t_ps_bl (f := f) hps
    have hWB : t_pf J (xm_u2 J 0 4 (nI (p_bl f n k0))) := t_pf.u (Or.inl rfl)
    have htB := hWB.tx htJ
    rw [show p_v (.inr (nI h, k0)) = nI h from rfl]
    repeat' (first
      | ((with_reducible refine @And.intro (vp_in _ _) _ ?_ ?_); (· (first | with_reducible assumption | ((with_reducible refine t_vin ?_); decide) | ((with_reducible refine vp_in_nI ?_ ?_) <;> first | omega | decide) | (simp (disch := omega) only [xl_n, xl_m, nI_dec, nI_sb, nI_add, pk_mul]; (with_reducible refine vp_in_nI ?_ ?_) <;> first | omega | decide))); (conv => whnf))
      | (refine And.intro (by first | with_reducible assumption | exact (show tL _ = _ from rfl) | decide) ?_; (conv => whnf))
      | ((with_reducible refine @And.intro (_ = _) _ ?_ ?_); (· rfl); (conv => whnf))
      | ((with_reducible refine @And.intro (@LE.le Nat _ _ _) _ ?_ ?_); (· (first | exact Nat.zero_le _ | exact Nat.le_of_ble_eq_true rfl | omega)); (conv => whnf))
      | ((with_reducible refine @And.intro (@LT.lt Nat _ _ _) _ ?_ ?_); (· omega); (conv => whnf))
      | ((with_reducible refine @And.intro (∃ _, _ = _) _ ?_ ?_); (· exact ⟨_, rfl⟩); (conv => whnf))
      | ((with_reducible refine @And.intro (_ ∨ _) _ ?_ ?_); (· (first | exact Or.inl rfl | exact Or.inr rfl | exact t_b01 _ | assumption)); (conv => whnf))
      | ((with_reducible refine @And.intro (¬ (_ = _)) _ ?_ ?_); (· first | assumption | (with_reducible assumption)); (conv => whnf))
      | (refine hX _ _ _ _ _ _ ?_; (conv => whnf); fail_if_success show False)
      | (rw [t_si]; (conv => whnf))
      | (refine ⟨_, rfl, ?_⟩; (conv => whnf))
      | (refine ⟨_, _, rfl, ?_⟩; (conv => whnf))
      | (refine ⟨_, _, _, rfl, ?_⟩; (conv => whnf))
      | (refine ⟨_, _, _, _, rfl, ?_⟩; (conv => whnf))
      | (refine ⟨_, _, (by with_reducible assumption), ?_⟩; (conv => whnf))
      | (refine ⟨_, (by first | with_reducible assumption | exact rfl), ?_⟩; (conv => whnf))
      | (refine And.intro (fun c => ?_) (fun c => ?_) <;> (first | (exact absurd c (by decide +kernel)) | (exact absurd c (by assumption)) | (exact False.elim (c (by assumption))) | (conv => whnf)))
      | fail)
    intro J2 hJ2 hps2
    have eg : p_go (.inr (p_bl f n k0)) (p_number f n (nI 0) (F 11 1 - nI 1)) = p_number f n (nI 0) (F 11 1 - nI 1) k0 := p_number_bl hk0
    have ep : xm_u2 J 0 4 (nI (p_bl f n k0)) 11 1 = F 11 1 := hrJ.p
    rw [ep, eg] at hps2
    rw [ep, eg]
    clear ep eg
    have hrJ2 := hJ2.d (hWB.d hrJ)
    have hJ2 := hJ.tr (hWB.r.tr hJ2.r)
    clear hpsB hWB htB h5 h4J hps
    (conv => whnf)
    cases hr1 : p_number f n (nI 0) (F 11 1 - nI 1) k0 with
    | inl e =>
      rw [hr1] at hps2
      rw [hr1] at hR
      have hR : R = .inl e := hR
      subst hR
      have hps2 : t_ps J2 n (.inl e) := hps2
      have h5 := t_ps_e hps2
      repeat' (first
        | ((with_reducible refine @And.intro (vp_in _ _) _ ?_ ?_); (· (first | with_reducible assumption | ((with_reducible refine t_vin ?_); decide) | ((with_reducible refine vp_in_nI ?_ ?_) <;> first | omega | decide) | (simp (disch := omega) only [xl_n, xl_m, nI_dec, nI_sb, nI_add, pk_mul]; (with_reducible refine vp_in_nI ?_ ?_) <;> first | omega | decide))); (conv => whnf))
        | (refine And.intro (by first | with_reducible assumption | exact (show tL _ = _ from rfl) | decide) ?_; (conv => whnf))
        | ((with_reducible refine @And.intro (_ = _) _ ?_ ?_); (· rfl); (conv => whnf))
        | ((with_reducible refine @And.intro (@LE.le Nat _ _ _) _ ?_ ?_); (· (first | exact Nat.zero_le _ | exact Nat.le_of_ble_eq_true rfl | omega)); (conv => whnf))
        | ((with_reducible refine @And.intro (@LT.lt Nat _ _ _) _ ?_ ?_); (· omega); (conv => whnf))
        | ((with_reducible refine @And.intro (∃ _, _ = _) _ ?_ ?_); (· exact ⟨_, rfl⟩); (conv => whnf))
        | ((with_reducible refine @And.intro (_ ∨ _) _ ?_ ?_); (· (first | exact Or.inl rfl | exact Or.inr rfl | exact t_b01 _ | assumption)); (conv => whnf))
        | ((with_reducible refine @And.intro (¬ (_ = _)) _ ?_ ?_); (· first | assumption | (with_reducible assumption)); (conv => whnf))
        | (refine hX _ _ _ _ _ _ ?_; (conv => whnf); fail_if_success show False)
        | (rw [t_si]; (conv => whnf))
        | (refine ⟨_, rfl, ?_⟩; (conv => whnf))
        | (refine ⟨_, _, rfl, ?_⟩; (conv => whnf))
        | (refine ⟨_, _, _, rfl, ?_⟩; (conv => whnf))
        | (refine ⟨_, _, _, _, rfl, ?_⟩; (conv => whnf))
        | (refine ⟨_, _, (by with_reducible assumption), ?_⟩; (conv => whnf))
        | (refine ⟨_, (by first | with_reducible assumption | exact rfl), ?_⟩; (conv => whnf))
        | (refine And.intro (fun c => ?_) (fun c => ?_) <;> (first | (exact absurd c (by decide +kernel)) | (exact absurd c (by assumption)) | (exact False.elim (c (by assumption))) | (conv => whnf)))
        | fail)
      exact hQ _ hJ2 hps2
    | inr e =>
      obtain ⟨v1, k1⟩ := e
      rw [hr1] at hps2
      rw [hr1] at hR
      rw [hF.2.2.1] at hr1
      obtain ⟨p, rfl, hpp⟩ := p_number_n (by have := hF.2.2.2.1; omega) hk0 hr1
      have hp8 : p < 8 := Nat.lt_of_lt_of_le hpp hF.2.2.2.1
      have hR : R = if p_cant F h (nI p).toNatClampNeg = true then .inl (nI 2, p_bl f n k0) else .inr (xm_u2 F 13 (nI p).toNatClampNeg (F 13 (nI p).toNatClampNeg ||| t_bit h), k1) := hR
      rw [nI_clamp (show p < 2 ^ 31 by omega)] at hR
      clear hr1
      have hps2 : t_ps J2 n (.inr k1) := hps2
      have h5 := t_ps_0 hps2
      have e1 := hrJ2 _ _ (f_in_h hh (show 1 < 3 by decide))
      have e2 := hrJ2 _ _ (f_in_p hpp (show 1 < 3 by decide))
      have e3 := hrJ2 _ _ (f_in_13 (F := F) hp8)
      have e4 := hrJ2 _ _ (f_in_15 (F := F) hp8)
      have hd : ¬ xm_u2 (xm_u2 J2 0 5 (Int32.ofInt 2)) 0 6 (nI (p_bl f n k0)) 0 5 = 0 := by
        rw [xm_u2_at, if_neg (by decide), xm_u2_at, if_pos rfl]
        decide +kernel
      have hpw := t_ps_w (q := p_bl f n k0) (v := nI 2) hps2 (by decide +kernel)
      have hJw : t_rf I (xm_u2 (xm_u2 J2 0 5 (nI 2)) 0 6 (nI (p_bl f n k0))) := hJ2.tr ((t_pf.u (Or.inr (Or.inl rfl))).tr (t_pf.u (Or.inr (Or.inr rfl)))).r
      rw [show p_v (.inr (nI p, k1)) = nI p from rfl]
      repeat' (first
        | ((with_reducible refine @And.intro (vp_in _ _) _ ?_ ?_); (· (first | with_reducible assumption | ((with_reducible refine t_vin ?_); decide) | ((with_reducible refine vp_in_nI ?_ ?_) <;> first | omega | decide) | (simp (disch := omega) only [xl_n, xl_m, nI_dec, nI_sb, nI_add, pk_mul]; (with_reducible refine vp_in_nI ?_ ?_) <;> first | omega | decide))); (conv => whnf))
        | (refine And.intro (by first | with_reducible assumption | exact (show tL _ = _ from rfl) | decide) ?_; (conv => whnf))
        | ((with_reducible refine @And.intro (_ = _) _ ?_ ?_); (· rfl); (conv => whnf))
        | ((with_reducible refine @And.intro (@LE.le Nat _ _ _) _ ?_ ?_); (· (first | exact Nat.zero_le _ | exact Nat.le_of_ble_eq_true rfl | omega)); (conv => whnf))
        | ((with_reducible refine @And.intro (@LT.lt Nat _ _ _) _ ?_ ?_); (· omega); (conv => whnf))
        | ((with_reducible refine @And.intro (∃ _, _ = _) _ ?_ ?_); (· exact ⟨_, rfl⟩); (conv => whnf))
        | ((with_reducible refine @And.intro (_ ∨ _) _ ?_ ?_); (· (first | exact Or.inl rfl | exact Or.inr rfl | exact t_b01 _ | assumption)); (conv => whnf))
        | ((with_reducible refine @And.intro (¬ (_ = _)) _ ?_ ?_); (· first | assumption | (with_reducible assumption)); (conv => whnf))
        | (refine hX _ _ _ _ _ _ ?_; (conv => whnf); fail_if_success show False)
        | (rw [t_si]; simp (disch := omega) only [xl_n, xl_m, nI_dec, nI_sb, xl_0, xl_1, tW_i, t_bn0, t_bn1, Classical.not_not, t_lt, nI_add, nI_1, pk_mul, nI_clamp, t_si, nI_eq, nI_leI, nM_ne, nM_ne, xm_u2_ne, xm_u2_at, reduceIte, tK_u, tA_u, Nat.reduceEqDiff]; (conv => whnf))
        | (refine ⟨_, rfl, ?_⟩; (conv => whnf))
        | (refine ⟨_, _, rfl, ?_⟩; (conv => whnf))
        | (refine ⟨_, _, _, rfl, ?_⟩; (conv => whnf))
        | (refine ⟨_, _, _, _, rfl, ?_⟩; (conv => whnf))
        | (rw [t_l100 (by first | with_reducible assumption | omega | exact vp_lt (by assumption) | (rw [nI_clamp (by omega)]; omega))]; (conv => whnf))
        | (rw [t_l120 (by first | with_reducible assumption | omega | exact vp_lt (by assumption) | (rw [nI_clamp (by omega)]; omega))]; (conv => whnf))
        | (refine ⟨_, _, (by with_reducible assumption), ?_⟩; (conv => whnf))
        | (refine ⟨_, (by first | with_reducible assumption | exact rfl), ?_⟩; (conv => whnf))
        | (refine And.intro (fun c => ?_) (fun c => ?_) <;> (first | (exact absurd c (by decide +kernel)) | (exact absurd c (by assumption)) | (exact False.elim (c (by assumption))) | (conv => whnf)))
        | fail)
      all_goals clear hX hG hd
      all_goals simp (disch := omega) only [xl_n, xl_m, nI_dec, nI_sb, xl_0, xl_1, tW_i, t_bn0, t_bn1, Classical.not_not, t_lt, nI_add, nI_1, pk_mul, nI_clamp, t_si, nI_eq, nI_leI, nM_ne, nM_ne] at *
      all_goals (
        have w : p_cant F h p = true → Q none (tW (xm_u2 (xm_u2 J2 0 5 (nI 2)) 0 6 (nI (p_bl f n k0)))) := fun z => by
          rw [if_pos z] at hR
          subst hR
          exact hQ _ hJw hpw)
      · exact w (by unfold p_cant; rw [← e1, ← e2, ← e3, ← e4]; simp only [Bool.or_eq_true, decide_eq_true_eq, Bool.not_eq_true', decide_eq_false_iff_not]; exact Or.inl (by assumption))
      · exact w (by unfold p_cant; rw [← e1, ← e2, ← e3, ← e4]; simp only [Bool.or_eq_true, decide_eq_true_eq, Bool.not_eq_true', decide_eq_false_iff_not]; exact Or.inr (Or.inl (p_nf (by assumption))))
      · exact w (by unfold p_cant; rw [← e1, ← e2, ← e3, ← e4]; simp only [Bool.or_eq_true, decide_eq_true_eq, Bool.not_eq_true', decide_eq_false_iff_not]; exact Or.inr (Or.inr (Or.inl (by assumption))))
      · have q : ¬ p_cant F h p = true := by
          unfold p_cant
          rw [← e1, ← e2, ← e3, ← e4]
          simp only [Bool.or_eq_true, decide_eq_true_eq, Bool.not_eq_true', decide_eq_false_iff_not]
          intro z
          rcases z with z | z | z | z
          · exact z (by assumption)
          · exact p_tf z (by assumption)
          · exact absurd z (by assumption)
          · exact p_tf z (by assumption)
        rw [if_neg q] at hR
        subst hR
        refine hQ _ (hJ2.w f13) ⟨t_ps_u hps2 (by decide), ?_⟩
        rw [← e3]
        exact hrJ2.u (Or.inl (by decide)) (by omega) hF
      · exact w (by unfold p_cant; rw [← e1, ← e2, ← e3, ← e4]; simp only [Bool.or_eq_true, decide_eq_true_eq, Bool.not_eq_true', decide_eq_false_iff_not]; exact Or.inr (Or.inr (Or.inr (p_nf (by assumption)))))
theorem ct_X11_worksHere {Iv : xI} (hI : xm_good Iv) : xm_Ct Iv yX11_worksHere (ws_ yX11_worksHere cX11_worksHere 4 none) 5 0 0 S_X11_worksHere := xm_enter (rt := 2) (init := false) (by decide +kernel) rfl (fun h => by cases h) (Or.inr (Or.inr (Or.inl ⟨rfl, rfl⟩))) (oX11_worksHere hI) body_X11_worksHere
theorem cv_X11_worksHere {Iv : xI} {own : String} {cc : ByteArray} {fr pc idx : Nat} (hI : xm_good Iv) (hdg : decode cc pc = .ok (.invokevirtual idx, 3)) (hl : xm_ml own idx yX11_worksHere) (hfr : 5 < fr) : xm_CallOK Iv own cc fr pc (pc + 3) 1 0 0 (xm_this 8 S_X11_worksHere) := xm_callV 8 hI (ct_X11_worksHere hI) hdg hl q2212 qs68 q145 q2213 rfl rfl (by decide +kernel) hfr (by decide)
abbrev bX11_quarrelHere_0 : List xE := [(.aload_n 0, 1, 0, 0, 0), (.invokevirtual 223, 4, 0, 0, 9), (.istore_n 1, 5, 0, 0, 0), (.aload_n 0, 6, 0, 0, 0), (.getfield 150, 9, 8, 5, 0), (.ifCond .eq 4, 12, 0, 13, 0), (.return_, 13, 0, 0, 0)]
abbrev bX11_quarrelHere_13 : List xE := [(.aload_n 0, 14, 0, 0, 0), (.invokevirtual 236, 17, 0, 1, 9), (.istore_n 2, 18, 0, 0, 0), (.aload_n 0, 19, 0, 0, 0), (.invokevirtual 239, 22, 0, 2, 9), (.istore_n 3, 23, 0, 0, 0), (.aload_n 0, 24, 0, 0, 0), (.getfield 150, 27, 8, 5, 0), (.ifCond .ne 22, 30, 0, 49, 0), (.aload_n 0, 31, 0, 0, 0), (.getfield 26, 34, 8, 13, 1), (.iload_n 3, 35, 0, 0, 0), (.iaload, 36, 0, 0, 0), (.iload_n 1, 37, 0, 0, 0), (.invokestatic 242, 40, 0, 3, 9), (.ifCond .eq 9, 43, 0, 49, 0), (.aload_n 0, 44, 0, 0, 0), (.iconst 2, 45, 0, 0, 0), (.iload_n 2, 46, 0, 0, 0), (.invokevirtual 163, 49, 0, 4, 9)]
abbrev bX11_quarrelHere_49 : List xE := [(.aload_n 0, 50, 0, 0, 0), (.getfield 150, 53, 8, 5, 0), (.ifCond .ne 15, 56, 0, 68, 0), (.aload_n 0, 57, 0, 0, 0), (.getfield 32, 60, 8, 15, 1), (.iload_n 3, 61, 0, 0, 0), (.dup2, 62, 0, 0, 0), (.iaload, 63, 0, 0, 0), (.iconst 1, 64, 0, 0, 0), (.iload_n 1, 65, 0, 0, 0), (.ishl, 66, 0, 0, 0), (.ior, 67, 0, 0, 0), (.iastore, 68, 0, 0, 0)]
abbrev bX11_quarrelHere_68 : List xE := [(.return_, 69, 0, 0, 0)]
abbrev kX11_quarrelHere : List (Nat × List xE) := [(0, bX11_quarrelHere_0), (13, bX11_quarrelHere_13), (49, bX11_quarrelHere_49), (68, bX11_quarrelHere_68)]
abbrev lX11_quarrelHere : List (Nat × Nat × Nat × xS) := [(1, 0, 0, xm_this 8 S_X11_handHere), (1, 0, 0, xm_this 8 S_X11_placeHere), (1, 0, 0, xm_this 8 S_X11_puppetHere), (2, 0, 0, S_X11_has), (3, 0, 0, xm_this 8 S_X11_wrong)]
theorem oX11_quarrelHere_0 {Iv : xI} (hI : xm_good Iv)  : xm_okb Iv RX11 cX11_quarrelHere false 5 lX11_quarrelHere bX11_quarrelHere_0 0 := xo_0 dX11_quarrelHere_0 rfl trivial (xo_c rfl (cv_X11_handHere hI dX11_quarrelHere_1 (Or.inl q2214) (by decide)) (xo_0 dX11_quarrelHere_4 rfl trivial (xo_0 dX11_quarrelHere_5 rfl trivial (xo_0 dX11_quarrelHere_6 rfl (xm_fg_of (Or.inl q1960) (by decide) rfl (by decide) rfl rfl (Or.inl rfl) rfl) (xo_0 dX11_quarrelHere_9 rfl rfl (xo_0 dX11_quarrelHere_12 rfl trivial (xo_n)))))))
theorem oX11_quarrelHere_13 {Iv : xI} (hI : xm_good Iv)  : xm_okb Iv RX11 cX11_quarrelHere false 5 lX11_quarrelHere bX11_quarrelHere_13 13 := xo_0 dX11_quarrelHere_13 rfl trivial (xo_c rfl (cv_X11_placeHere hI dX11_quarrelHere_14 (Or.inl q2198) (by decide)) (xo_0 dX11_quarrelHere_17 rfl trivial (xo_0 dX11_quarrelHere_18 rfl trivial (xo_c rfl (cv_X11_puppetHere hI dX11_quarrelHere_19 (Or.inl q2206) (by decide)) (xo_0 dX11_quarrelHere_22 rfl trivial (xo_0 dX11_quarrelHere_23 rfl trivial (xo_0 dX11_quarrelHere_24 rfl (xm_fg_of (Or.inl q1960) (by decide) rfl (by decide) rfl rfl (Or.inl rfl) rfl) (xo_0 dX11_quarrelHere_27 rfl rfl (xo_0 dX11_quarrelHere_30 rfl trivial (xo_1 dX11_quarrelHere_31 rfl (xm_fg_of (Or.inl q1968) (by decide) rfl (by decide) rfl rfl (Or.inl rfl) rfl) (xo_0 dX11_quarrelHere_34 rfl trivial (xo_0 dX11_quarrelHere_35 rfl trivial (xo_0 dX11_quarrelHere_36 rfl trivial (xo_c rfl (cv_X11_has hI dX11_quarrelHere_37 (Or.inl q1945) (by decide)) (xo_0 dX11_quarrelHere_40 rfl rfl (xo_0 dX11_quarrelHere_43 rfl trivial (xo_0 dX11_quarrelHere_44 rfl trivial (xo_0 dX11_quarrelHere_45 rfl trivial (xo_c rfl (cv_X11_wrong hI dX11_quarrelHere_46 (Or.inl q2178) (by decide)) (xo_n))))))))))))))))))))
theorem oX11_quarrelHere_49 {Iv : xI} (hI : xm_good Iv)  : xm_okb Iv RX11 cX11_quarrelHere false 5 lX11_quarrelHere bX11_quarrelHere_49 49 := xo_0 dX11_quarrelHere_49 rfl trivial (xo_0 dX11_quarrelHere_50 rfl (xm_fg_of (Or.inl q1960) (by decide) rfl (by decide) rfl rfl (Or.inl rfl) rfl) (xo_0 dX11_quarrelHere_53 rfl rfl (xo_0 dX11_quarrelHere_56 rfl trivial (xo_1 dX11_quarrelHere_57 rfl (xm_fg_of (Or.inl q1970) (by decide) rfl (by decide) rfl rfl (Or.inl rfl) rfl) (xo_0 dX11_quarrelHere_60 rfl trivial (xo_0 dX11_quarrelHere_61 rfl trivial (xo_0 dX11_quarrelHere_62 rfl trivial (xo_0 dX11_quarrelHere_63 rfl trivial (xo_0 dX11_quarrelHere_64 rfl trivial (xo_0 dX11_quarrelHere_65 rfl trivial (xo_0 dX11_quarrelHere_66 rfl trivial (xo_0 dX11_quarrelHere_67 rfl trivial (xo_n)))))))))))))
theorem oX11_quarrelHere_68 {Iv : xI} (hI : xm_good Iv)  : xm_okb Iv RX11 cX11_quarrelHere false 5 lX11_quarrelHere bX11_quarrelHere_68 68 := xo_0 dX11_quarrelHere_68 rfl trivial (xo_n)
theorem oX11_quarrelHere {Iv : xI} (hI : xm_good Iv)  : ∀ q ∈ kX11_quarrelHere, xm_okb Iv RX11 cX11_quarrelHere false 5 lX11_quarrelHere q.2 q.1 := by
  intro q hq
  simp only [List.mem_cons, List.not_mem_nil, or_false] at hq
  rcases hq with rfl | rfl | rfl | rfl
  · exact oX11_quarrelHere_0 hI  
  · exact oX11_quarrelHere_13 hI  
  · exact oX11_quarrelHere_49 hI  
  · exact oX11_quarrelHere_68 hI  
def S_X11_quarrelHere : xS := tU fun as I Q => as = [.ref 0] ∧ ∃ f n, t_tx I f n ∧ ∃ k, t_ps I n (.inr k) ∧ ∃ F, t_fok F ∧ t_rea I F ∧ ∀ J, t_rf I J → t_out J n (p_quarrel f n F k) → Q none J
theorem body_X11_quarrelHere : xm_Body 4 2 0 0 [] lX11_quarrelHere kX11_quarrelHere S_X11_quarrelHere := by
  intro X avs w Q QX hX0 hS
  have hG := xm_go [] hX0
  have hX := xm_go [] hX0
  clear hX0
  obtain ⟨I, rfl, rfl, f, n, ht, k, hp, F, hF, hr, hQ⟩ := hS
  obtain ⟨-, -, hk⟩ := t_ps_n hp
  obtain ⟨R, hR⟩ : ∃ R, R = p_quarrel f n F k := ⟨_, rfl⟩
  rw [← hR] at hQ
  unfold p_quarrel at hR
  have f15 : t_rr 15 := by unfold t_rr; omega
  refine ⟨rfl, ?_⟩
  repeat' (first
    | ((with_reducible refine @And.intro (vp_in _ _) _ ?_ ?_); (· (first | with_reducible assumption | ((with_reducible refine t_vin ?_); decide) | ((with_reducible refine vp_in_nI ?_ ?_) <;> first | omega | decide) | (simp (disch := omega) only [xl_n, xl_m, nI_dec, nI_sb, nI_add, pk_mul]; (with_reducible refine vp_in_nI ?_ ?_) <;> first | omega | decide))); (conv => whnf))
    | (refine And.intro (by first | with_reducible assumption | exact (show tL _ = _ from rfl) | decide) ?_; (conv => whnf))
    | ((with_reducible refine @And.intro (_ = _) _ ?_ ?_); (· rfl); (conv => whnf))
    | ((with_reducible refine @And.intro (@LE.le Nat _ _ _) _ ?_ ?_); (· (first | exact Nat.zero_le _ | exact Nat.le_of_ble_eq_true rfl | omega)); (conv => whnf))
    | ((with_reducible refine @And.intro (@LT.lt Nat _ _ _) _ ?_ ?_); (· omega); (conv => whnf))
    | ((with_reducible refine @And.intro (∃ _, _ = _) _ ?_ ?_); (· exact ⟨_, rfl⟩); (conv => whnf))
    | ((with_reducible refine @And.intro (_ ∨ _) _ ?_ ?_); (· (first | exact Or.inl rfl | exact Or.inr rfl | exact t_b01 _ | assumption)); (conv => whnf))
    | ((with_reducible refine @And.intro (¬ (_ = _)) _ ?_ ?_); (· first | assumption | (with_reducible assumption)); (conv => whnf))
    | (refine hX _ _ _ _ _ _ ?_; (conv => whnf); fail_if_success show False)
    | (rw [t_si]; (conv => whnf))
    | (refine ⟨_, rfl, ?_⟩; (conv => whnf))
    | (refine ⟨_, _, rfl, ?_⟩; (conv => whnf))
    | (refine ⟨_, _, _, rfl, ?_⟩; (conv => whnf))
    | (refine ⟨_, _, _, _, rfl, ?_⟩; (conv => whnf))
    | (refine ⟨_, _, (by with_reducible assumption), ?_⟩; (conv => whnf))
    | (refine ⟨_, (by first | with_reducible assumption | exact rfl), ?_⟩; (conv => whnf))
    | (refine And.intro (fun c => ?_) (fun c => ?_) <;> (first | (exact absurd c (by decide +kernel)) | (exact absurd c (by assumption)) | (exact False.elim (c (by assumption))) | (conv => whnf)))
    | fail)
  intro J hJ hps
  have htJ := hJ.tx ht
  have hrJ := hJ.d hr
  have hJ := hJ.r
  rw [hr.h] at hps
  rw [hr.h]
  (conv => whnf)
  cases hr0 : p_go (.inr k) (p_number f n (nI 0) (F 11 0 - nI 1)) with
  | inl e =>
    rw [hr0] at hps
    rw [show p_number f n (nI 0) (F 11 0 - nI 1) k = .inl e from hr0] at hR
    have hR : R = .inl e := hR
    subst hR
    have hps : t_ps J n (.inl e) := hps
    have h5 := t_ps_e hps
    repeat' (first
      | ((with_reducible refine @And.intro (vp_in _ _) _ ?_ ?_); (· (first | with_reducible assumption | ((with_reducible refine t_vin ?_); decide) | ((with_reducible refine vp_in_nI ?_ ?_) <;> first | omega | decide) | (simp (disch := omega) only [xl_n, xl_m, nI_dec, nI_sb, nI_add, pk_mul]; (with_reducible refine vp_in_nI ?_ ?_) <;> first | omega | decide))); (conv => whnf))
      | (refine And.intro (by first | with_reducible assumption | exact (show tL _ = _ from rfl) | decide) ?_; (conv => whnf))
      | ((with_reducible refine @And.intro (_ = _) _ ?_ ?_); (· rfl); (conv => whnf))
      | ((with_reducible refine @And.intro (@LE.le Nat _ _ _) _ ?_ ?_); (· (first | exact Nat.zero_le _ | exact Nat.le_of_ble_eq_true rfl | omega)); (conv => whnf))
      | ((with_reducible refine @And.intro (@LT.lt Nat _ _ _) _ ?_ ?_); (· omega); (conv => whnf))
      | ((with_reducible refine @And.intro (∃ _, _ = _) _ ?_ ?_); (· exact ⟨_, rfl⟩); (conv => whnf))
      | ((with_reducible refine @And.intro (_ ∨ _) _ ?_ ?_); (· (first | exact Or.inl rfl | exact Or.inr rfl | exact t_b01 _ | assumption)); (conv => whnf))
      | ((with_reducible refine @And.intro (¬ (_ = _)) _ ?_ ?_); (· first | assumption | (with_reducible assumption)); (conv => whnf))
      | (refine hX _ _ _ _ _ _ ?_; (conv => whnf); fail_if_success show False)
      | (rw [t_si]; (conv => whnf))
      | (refine ⟨_, rfl, ?_⟩; (conv => whnf))
      | (refine ⟨_, _, rfl, ?_⟩; (conv => whnf))
      | (refine ⟨_, _, _, rfl, ?_⟩; (conv => whnf))
      | (refine ⟨_, _, _, _, rfl, ?_⟩; (conv => whnf))
      | (refine ⟨_, _, (by with_reducible assumption), ?_⟩; (conv => whnf))
      | (refine ⟨_, (by first | with_reducible assumption | exact rfl), ?_⟩; (conv => whnf))
      | (refine And.intro (fun c => ?_) (fun c => ?_) <;> (first | (exact absurd c (by decide +kernel)) | (exact absurd c (by assumption)) | (exact False.elim (c (by assumption))) | (conv => whnf)))
      | fail)
    exact hQ _ hJ hps
  | inr e =>
    obtain ⟨v0, k0⟩ := e
    rw [hr0] at hps
    have hr0 : p_number f n (nI 0) (F 11 0 - nI 1) k = .inr (v0, k0) := hr0
    rw [hr0] at hR
    have hR : R = p_bd (p_number f n (nI 0) (F 11 1 - nI 1) k0) _ := hR
    rw [hF.1] at hr0
    obtain ⟨h, rfl, hh⟩ := p_number_n (by have := hF.2.1; omega) hk hr0
    have hh9 : h < 9 := Nat.lt_of_lt_of_le hh hF.2.1
    rw [nI_clamp (show h < 2 ^ 31 by omega)] at hR
    clear hr0
    have hps : t_ps J n (.inr k0) := hps
    have h5 := t_ps_0 hps
    obtain ⟨-, h4J, hk0⟩ := t_ps_n hps
    have hpsB := t_ps_bl (f := f) hps
    have hWB : t_pf J (xm_u2 J 0 4 (nI (p_bl f n k0))) := t_pf.u (Or.inl rfl)
    have htB := hWB.tx htJ
    rw [show p_v (.inr (nI h, k0)) = nI h from rfl]
    repeat' (first
      | ((with_reducible refine @And.intro (vp_in _ _) _ ?_ ?_); (· (first | with_reducible assumption | ((with_reducible refine t_vin ?_); decide) | ((with_reducible refine vp_in_nI ?_ ?_) <;> first | omega | decide) | (simp (disch := omega) only [xl_n, xl_m, nI_dec, nI_sb, nI_add, pk_mul]; (with_reducible refine vp_in_nI ?_ ?_) <;> first | omega | decide))); (conv => whnf))
      | (refine And.intro (by first | with_reducible assumption | exact (show tL _ = _ from rfl) | decide) ?_; (conv => whnf))
      | ((with_reducible refine @And.intro (_ = _) _ ?_ ?_); (· rfl); (conv => whnf))
      | ((with_reducible refine @And.intro (@LE.le Nat _ _ _) _ ?_ ?_); (· (first | exact Nat.zero_le _ | exact Nat.le_of_ble_eq_true rfl | omega)); (conv => whnf))
      | ((with_reducible refine @And.intro (@LT.lt Nat _ _ _) _ ?_ ?_); (· omega); (conv => whnf))
      | ((with_reducible refine @And.intro (∃ _, _ = _) _ ?_ ?_); (· exact ⟨_, rfl⟩); (conv => whnf))
      | ((with_reducible refine @And.intro (_ ∨ _) _ ?_ ?_); (· (first | exact Or.inl rfl | exact Or.inr rfl | exact t_b01 _ | assumption)); (conv => whnf))
      | ((with_reducible refine @And.intro (¬ (_ = _)) _ ?_ ?_); (· first | assumption | (with_reducible assumption)); (conv => whnf))
      | (refine hX _ _ _ _ _ _ ?_; (conv => whnf); fail_if_success show False)
      | (rw [t_si]; (conv => whnf))
      | (refine ⟨_, rfl, ?_⟩; (conv => whnf))
      | (refine ⟨_, _, rfl, ?_⟩; (conv => whnf))
      | (refine ⟨_, _, _, rfl, ?_⟩; (conv => whnf))
      | (refine ⟨_, _, _, _, rfl, ?_⟩; (conv => whnf))
      | (refine ⟨_, _, (by with_reducible assumption), ?_⟩; (conv => whnf))
      | (refine ⟨_, (by first | with_reducible assumption | exact rfl), ?_⟩; (conv => whnf))
      | (refine And.intro (fun c => ?_) (fun c => ?_) <;> (first | (exact absurd c (by decide +kernel)) | (exact absurd c (by assumption)) | (exact False.elim (c (by assumption))) | (conv => whnf)))
      | fail)
    intro J2 hJ2 hps2
    have eg : p_go (.inr (p_bl f n k0)) (p_number f n (nI 0) (F 11 1 - nI 1)) = p_number f n (nI 0) (F 11 1 - nI 1) k0 := p_number_bl hk0
    have ep : xm_u2 J 0 4 (nI (p_bl f n k0)) 11 1 = F 11 1 := hrJ.p
    rw [ep, eg] at hps2
    rw [ep, eg]
    clear ep eg
    have hrJ2 := hJ2.d (hWB.d hrJ)
    have hJ2 := hJ.tr (hWB.r.tr hJ2.r)
    clear hpsB hWB htB h5 h4J hps
    (conv => whnf)
    cases hr1 : p_number f n (nI 0) (F 11 1 - nI 1) k0 with
    | inl e =>
      rw [hr1] at hps2
      rw [hr1] at hR
      have hR : R = .inl e := hR
      subst hR
      have hps2 : t_ps J2 n (.inl e) := hps2
      have h5 := t_ps_e hps2
      repeat' (first
        | ((with_reducible refine @And.intro (vp_in _ _) _ ?_ ?_); (· (first | with_reducible assumption | ((with_reducible refine t_vin ?_); decide) | ((with_reducible refine vp_in_nI ?_ ?_) <;> first | omega | decide) | (simp (disch := omega) only [xl_n, xl_m, nI_dec, nI_sb, nI_add, pk_mul]; (with_reducible refine vp_in_nI ?_ ?_) <;> first | omega | decide))); (conv => whnf))
        | (refine And.intro (by first | with_reducible assumption | exact (show tL _ = _ from rfl) | decide) ?_; (conv => whnf))
        | ((with_reducible refine @And.intro (_ = _) _ ?_ ?_); (· rfl); (conv => whnf))
        | ((with_reducible refine @And.intro (@LE.le Nat _ _ _) _ ?_ ?_); (· (first | exact Nat.zero_le _ | exact Nat.le_of_ble_eq_true rfl | omega)); (conv => whnf))
        | ((with_reducible refine @And.intro (@LT.lt Nat _ _ _) _ ?_ ?_); (· omega); (conv => whnf))
        | ((with_reducible refine @And.intro (∃ _, _ = _) _ ?_ ?_); (· exact ⟨_, rfl⟩); (conv => whnf))
        | ((with_reducible refine @And.intro (_ ∨ _) _ ?_ ?_); (· (first | exact Or.inl rfl | exact Or.inr rfl | exact t_b01 _ | assumption)); (conv => whnf))
        | ((with_reducible refine @And.intro (¬ (_ = _)) _ ?_ ?_); (· first | assumption | (with_reducible assumption)); (conv => whnf))
        | (refine hX _ _ _ _ _ _ ?_; (conv => whnf); fail_if_success show False)
        | (rw [t_si]; (conv => whnf))
        | (refine ⟨_, rfl, ?_⟩; (conv => whnf))
        | (refine ⟨_, _, rfl, ?_⟩; (conv => whnf))
        | (refine ⟨_, _, _, rfl, ?_⟩; (conv => whnf))
        | (refine ⟨_, _, _, _, rfl, ?_⟩; (conv => whnf))
        | (refine ⟨_, _, (by with_reducible assumption), ?_⟩; (conv => whnf))
        | (refine ⟨_, (by first | with_reducible assumption | exact rfl), ?_⟩; (conv => whnf))
        | (refine And.intro (fun c => ?_) (fun c => ?_) <;> (first | (exact absurd c (by decide +kernel)) | (exact absurd c (by assumption)) | (exact False.elim (c (by assumption))) | (conv => whnf)))
        | fail)
      exact hQ _ hJ2 hps2
    | inr e =>
      obtain ⟨v1, k1⟩ := e
      rw [hr1] at hps2
      rw [hr1] at hR
      rw [hF.2.2.1] at hr1
      obtain ⟨p, rfl, hpp⟩ := p_number_n (by have := hF.2.2.2.1; omega) hk0 hr1
      have hp8 : p < 8 := Nat.lt_of_lt_of_le hpp hF.2.2.2.1
      have hR : R = if t_has (F 13 (nI p).toNatClampNeg) h = true then .inl (nI 2, p_bl f n k0) else .inr (xm_u2 F 15 (nI p).toNatClampNeg (F 15 (nI p).toNatClampNeg ||| t_bit h), k1) := hR
      rw [nI_clamp (show p < 2 ^ 31 by omega)] at hR
      clear hr1
      have hps2 : t_ps J2 n (.inr k1) := hps2
      have h5 := t_ps_0 hps2
      have e1 := hrJ2 _ _ (f_in_h hh (show 1 < 3 by decide))
      have e2 := hrJ2 _ _ (f_in_p hpp (show 1 < 3 by decide))
      have e3 := hrJ2 _ _ (f_in_13 (F := F) hp8)
      have e4 := hrJ2 _ _ (f_in_15 (F := F) hp8)
      have hd : ¬ xm_u2 (xm_u2 J2 0 5 (Int32.ofInt 2)) 0 6 (nI (p_bl f n k0)) 0 5 = 0 := by
        rw [xm_u2_at, if_neg (by decide), xm_u2_at, if_pos rfl]
        decide +kernel
      have hpw := t_ps_w (q := p_bl f n k0) (v := nI 2) hps2 (by decide +kernel)
      have hJw : t_rf I (xm_u2 (xm_u2 J2 0 5 (nI 2)) 0 6 (nI (p_bl f n k0))) := hJ2.tr ((t_pf.u (Or.inr (Or.inl rfl))).tr (t_pf.u (Or.inr (Or.inr rfl)))).r
      rw [show p_v (.inr (nI p, k1)) = nI p from rfl]
      repeat' (first
        | ((with_reducible refine @And.intro (vp_in _ _) _ ?_ ?_); (· (first | with_reducible assumption | ((with_reducible refine t_vin ?_); decide) | ((with_reducible refine vp_in_nI ?_ ?_) <;> first | omega | decide) | (simp (disch := omega) only [xl_n, xl_m, nI_dec, nI_sb, nI_add, pk_mul]; (with_reducible refine vp_in_nI ?_ ?_) <;> first | omega | decide))); (conv => whnf))
        | (refine And.intro (by first | with_reducible assumption | exact (show tL _ = _ from rfl) | decide) ?_; (conv => whnf))
        | ((with_reducible refine @And.intro (_ = _) _ ?_ ?_); (· rfl); (conv => whnf))
        | ((with_reducible refine @And.intro (@LE.le Nat _ _ _) _ ?_ ?_); (· (first | exact Nat.zero_le _ | exact Nat.le_of_ble_eq_true rfl | omega)); (conv => whnf))
        | ((with_reducible refine @And.intro (@LT.lt Nat _ _ _) _ ?_ ?_); (· omega); (conv => whnf))
        | ((with_reducible refine @And.intro (∃ _, _ = _) _ ?_ ?_); (· exact ⟨_, rfl⟩); (conv => whnf))
        | ((with_reducible refine @And.intro (_ ∨ _) _ ?_ ?_); (· (first | exact Or.inl rfl | exact Or.inr rfl | exact t_b01 _ | assumption)); (conv => whnf))
        | ((with_reducible refine @And.intro (¬ (_ = _)) _ ?_ ?_); (· first | assumption | (with_reducible assumption)); (conv => whnf))
        | (refine hX _ _ _ _ _ _ ?_; (conv => whnf); fail_if_success show False)
        | (rw [t_si]; simp (disch := omega) only [xl_n, xl_m, nI_dec, nI_sb, xl_0, xl_1, tW_i, t_bn0, t_bn1, Classical.not_not, t_lt, nI_add, nI_1, pk_mul, nI_clamp, t_si, nI_eq, nI_leI, nM_ne, nM_ne, xm_u2_ne, xm_u2_at, reduceIte, tK_u, tA_u, Nat.reduceEqDiff]; (conv => whnf))
        | (refine ⟨_, rfl, ?_⟩; (conv => whnf))
        | (refine ⟨_, _, rfl, ?_⟩; (conv => whnf))
        | (refine ⟨_, _, _, rfl, ?_⟩; (conv => whnf))
        | (refine ⟨_, _, _, _, rfl, ?_⟩; (conv => whnf))
        | (rw [t_l100 (by first | with_reducible assumption | omega | exact vp_lt (by assumption) | (rw [nI_clamp (by omega)]; omega))]; (conv => whnf))
        | (rw [t_l120 (by first | with_reducible assumption | omega | exact vp_lt (by assumption) | (rw [nI_clamp (by omega)]; omega))]; (conv => whnf))
        | (refine ⟨_, _, (by with_reducible assumption), ?_⟩; (conv => whnf))
        | (refine ⟨_, (by first | with_reducible assumption | exact rfl), ?_⟩; (conv => whnf))
        | (refine And.intro (fun c => ?_) (fun c => ?_) <;> (first | (exact absurd c (by decide +kernel)) | (exact absurd c (by assumption)) | (exact False.elim (c (by assumption))) | (conv => whnf)))
        | fail)
      all_goals clear hX hG hd
      all_goals simp (disch := omega) only [xl_n, xl_m, nI_dec, nI_sb, xl_0, xl_1, tW_i, t_bn0, t_bn1, Classical.not_not, t_lt, nI_add, nI_1, pk_mul, nI_clamp, t_si, nI_eq, nI_leI, nM_ne, nM_ne] at *
      all_goals (
        have w : t_has (F 13 p) h = true → Q none (tW (xm_u2 (xm_u2 J2 0 5 (nI 2)) 0 6 (nI (p_bl f n k0)))) := fun z => by
          rw [if_pos z] at hR
          subst hR
          exact hQ _ hJw hpw)
      · have q : ¬ t_has (F 13 p) h = true := by
          rw [← e3]
          exact fun z => p_tf z (by assumption)
        rw [if_neg q] at hR
        subst hR
        refine hQ _ (hJ2.w f15) ⟨t_ps_u hps2 (by decide), ?_⟩
        rw [← e4]
        exact hrJ2.u (Or.inl (by decide)) (by omega) hF
      · exact w (by rw [← e3]; exact p_nf (by assumption))
theorem ct_X11_quarrelHere {Iv : xI} (hI : xm_good Iv) : xm_Ct Iv yX11_quarrelHere (ws_ yX11_quarrelHere cX11_quarrelHere 4 none) 5 0 0 S_X11_quarrelHere := xm_enter (rt := 2) (init := false) (by decide +kernel) rfl (fun h => by cases h) (Or.inr (Or.inr (Or.inl ⟨rfl, rfl⟩))) (oX11_quarrelHere hI) body_X11_quarrelHere
theorem cv_X11_quarrelHere {Iv : xI} {own : String} {cc : ByteArray} {fr pc idx : Nat} (hI : xm_good Iv) (hdg : decode cc pc = .ok (.invokevirtual idx, 3)) (hl : xm_ml own idx yX11_quarrelHere) (hfr : 5 < fr) : xm_CallOK Iv own cc fr pc (pc + 3) 1 0 0 (xm_this 8 S_X11_quarrelHere) := xm_callV 8 hI (ct_X11_quarrelHere hI) hdg hl q2223 qs70 q145 q2224 rfl rfl (by decide +kernel) hfr (by decide)
