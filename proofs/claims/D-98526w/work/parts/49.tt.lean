/-! ===== the reference: who speaks ===== -/
set_option maxRecDepth 100000
def g_spk1 (G : gG) (h g : Nat) : Bool := g_al (gGK G) (gnow G) h && g_al (gGK G) (gnow G) g && !t_has (gsil G h) g
def g_spkr (G : gG) (h n : Nat) (s : Int32) : Int32 := t_fold n (fun g s => s + if g_spk1 G h g = true then nI 1 else nI 0) s
theorem g_spkr_s {G : gG} {h n : Nat} {s : Int32} : g_spkr G h (n + 1) s = g_spkr G h n s + if g_spk1 G h n = true then nI 1 else nI 0 := rfl
def g_spk (G : gG) (n : Nat) : Int32 := t_fold n (fun h s => g_spkr G h h s) (nI 0)
theorem g_spk_s {G : gG} {n : Nat} : g_spk G (n + 1) = g_spkr G n n (g_spk G n) := rfl
def q_speaks (G : gG) : gR := g_says G (g_spk G (gn (gGK G)))
abbrev bX11_speaks_0 : List xE := [(.aload_n 0, 1, 0, 0, 0), (.iconst 0, 2, 0, 0, 0), (.putfield 134, 5, 8, 0, 0), (.iconst 0, 6, 0, 0, 0), (.istore_n 1, 7, 0, 0, 0), (.iconst 0, 8, 0, 0, 0), (.istore_n 2, 9, 0, 0, 0)]
abbrev bX11_speaks_9 : List xE := [(.iload_n 2, 10, 0, 0, 0), (.aload_n 0, 11, 0, 0, 0), (.getfield 23, 14, 8, 12, 1), (.iconst 0, 15, 0, 0, 0), (.iaload, 16, 0, 0, 0), (.if_icmp .ge 67, 19, 0, 83, 0), (.iconst 0, 20, 0, 0, 0), (.istore_n 3, 21, 0, 0, 0)]
abbrev bX11_speaks_21 : List xE := [(.iload_n 3, 22, 0, 0, 0), (.iload_n 2, 23, 0, 0, 0), (.if_icmp .ge 54, 26, 0, 77, 0), (.iload_n 1, 27, 0, 0, 0), (.aload_n 0, 28, 0, 0, 0), (.aload_n 0, 29, 0, 0, 0), (.getfield 91, 32, 8, 36, 1), (.iload_n 2, 33, 0, 0, 0), (.invokevirtual 320, 36, 0, 0, 9), (.ifCond .eq 32, 39, 0, 68, 0), (.aload_n 0, 40, 0, 0, 0), (.aload_n 0, 41, 0, 0, 0), (.getfield 91, 44, 8, 36, 1), (.iload_n 3, 45, 0, 0, 0), (.invokevirtual 320, 48, 0, 0, 9), (.ifCond .eq 20, 51, 0, 68, 0), (.aload_n 0, 52, 0, 0, 0), (.getfield 41, 55, 8, 18, 1), (.iload_n 2, 56, 0, 0, 0), (.iaload, 57, 0, 0, 0), (.iload_n 3, 58, 0, 0, 0), (.invokestatic 242, 61, 0, 1, 9), (.ifCond .ne 7, 64, 0, 68, 0), (.iconst 1, 65, 0, 0, 0), (.goto 4, 68, 0, 69, 0)]
abbrev bX11_speaks_68 : List xE := [(.iconst 0, 69, 0, 0, 0)]
abbrev bX11_speaks_69 : List xE := [(.iadd, 70, 0, 0, 0), (.istore_n 1, 71, 0, 0, 0), (.iinc 3 1, 74, 0, 0, 0), (.goto (-53), 77, 0, 21, 0)]
abbrev bX11_speaks_77 : List xE := [(.iinc 2 1, 80, 0, 0, 0), (.goto (-71), 83, 0, 9, 0)]
abbrev bX11_speaks_83 : List xE := [(.iload_n 1, 84, 0, 0, 0), (.ireturn, 85, 0, 0, 0)]
abbrev kX11_speaks : List (Nat × List xE) := [(0, bX11_speaks_0), (9, bX11_speaks_9), (21, bX11_speaks_21), (68, bX11_speaks_68), (69, bX11_speaks_69), (77, bX11_speaks_77), (83, bX11_speaks_83)]
abbrev lX11_speaks : List (Nat × Nat × Nat × xS) := [(3, 0, 0, xm_this 8 S_X11_isAlive), (2, 0, 0, S_X11_has)]
theorem oX11_speaks_0 {Iv : xI} (hI : xm_good Iv)  : xm_okb Iv RX11 cX11_speaks false 3 lX11_speaks bX11_speaks_0 0 := xo_0 dX11_speaks_0 rfl trivial (xo_0 dX11_speaks_1 rfl trivial (xo_0 dX11_speaks_2 rfl (xm_fp_of (xm_fg_of (Or.inl q1955) (by decide) rfl (by decide) rfl rfl (Or.inl rfl) rfl) (by decide) rfl (Or.inl ⟨rfl, rfl⟩) rfl) (xo_0 dX11_speaks_5 rfl trivial (xo_0 dX11_speaks_6 rfl trivial (xo_0 dX11_speaks_7 rfl trivial (xo_0 dX11_speaks_8 rfl trivial (xo_n)))))))
theorem oX11_speaks_9 {Iv : xI} (hI : xm_good Iv)  : xm_okb Iv RX11 cX11_speaks false 3 lX11_speaks bX11_speaks_9 9 := xo_0 dX11_speaks_9 rfl trivial (xo_0 dX11_speaks_10 rfl trivial (xo_1 dX11_speaks_11 rfl (xm_fg_of (Or.inl q1967) (by decide) rfl (by decide) rfl rfl (Or.inl rfl) rfl) (xo_0 dX11_speaks_14 rfl trivial (xo_0 dX11_speaks_15 rfl trivial (xo_0 dX11_speaks_16 rfl rfl (xo_0 dX11_speaks_19 rfl trivial (xo_0 dX11_speaks_20 rfl trivial (xo_n))))))))
theorem oX11_speaks_21 {Iv : xI} (hI : xm_good Iv)  : xm_okb Iv RX11 cX11_speaks false 3 lX11_speaks bX11_speaks_21 21 := xo_0 dX11_speaks_21 rfl trivial (xo_0 dX11_speaks_22 rfl trivial (xo_0 dX11_speaks_23 rfl rfl (xo_0 dX11_speaks_26 rfl trivial (xo_0 dX11_speaks_27 rfl trivial (xo_0 dX11_speaks_28 rfl trivial (xo_1 dX11_speaks_29 rfl (xm_fg_of (Or.inl q1991) (by decide) rfl (by decide) rfl rfl (Or.inl rfl) rfl) (xo_0 dX11_speaks_32 rfl trivial (xo_c rfl (cv_X11_isAlive hI dX11_speaks_33 (Or.inl q2292) (by decide)) (xo_0 dX11_speaks_36 rfl rfl (xo_0 dX11_speaks_39 rfl trivial (xo_0 dX11_speaks_40 rfl trivial (xo_1 dX11_speaks_41 rfl (xm_fg_of (Or.inl q1991) (by decide) rfl (by decide) rfl rfl (Or.inl rfl) rfl) (xo_0 dX11_speaks_44 rfl trivial (xo_c rfl (cv_X11_isAlive hI dX11_speaks_45 (Or.inl q2292) (by decide)) (xo_0 dX11_speaks_48 rfl rfl (xo_0 dX11_speaks_51 rfl trivial (xo_1 dX11_speaks_52 rfl (xm_fg_of (Or.inl q1973) (by decide) rfl (by decide) rfl rfl (Or.inl rfl) rfl) (xo_0 dX11_speaks_55 rfl trivial (xo_0 dX11_speaks_56 rfl trivial (xo_0 dX11_speaks_57 rfl trivial (xo_c rfl (cv_X11_has hI dX11_speaks_58 (Or.inl q1945) (by decide)) (xo_0 dX11_speaks_61 rfl rfl (xo_0 dX11_speaks_64 rfl trivial (xo_0 dX11_speaks_65 rfl rfl (xo_n)))))))))))))))))))))))))
theorem oX11_speaks_68 {Iv : xI} (hI : xm_good Iv)  : xm_okb Iv RX11 cX11_speaks false 3 lX11_speaks bX11_speaks_68 68 := xo_0 dX11_speaks_68 rfl trivial (xo_n)
theorem oX11_speaks_69 {Iv : xI} (hI : xm_good Iv)  : xm_okb Iv RX11 cX11_speaks false 3 lX11_speaks bX11_speaks_69 69 := xo_0 dX11_speaks_69 rfl trivial (xo_0 dX11_speaks_70 rfl trivial (xo_0 dX11_speaks_71 rfl trivial (xo_0 dX11_speaks_74 rfl rfl (xo_n))))
theorem oX11_speaks_77 {Iv : xI} (hI : xm_good Iv)  : xm_okb Iv RX11 cX11_speaks false 3 lX11_speaks bX11_speaks_77 77 := xo_0 dX11_speaks_77 rfl trivial (xo_0 dX11_speaks_80 rfl rfl (xo_n))
theorem oX11_speaks_83 {Iv : xI} (hI : xm_good Iv)  : xm_okb Iv RX11 cX11_speaks false 3 lX11_speaks bX11_speaks_83 83 := xo_0 dX11_speaks_83 rfl trivial (xo_0 dX11_speaks_84 rfl trivial (xo_n))
theorem oX11_speaks {Iv : xI} (hI : xm_good Iv)  : ∀ q ∈ kX11_speaks, xm_okb Iv RX11 cX11_speaks false 3 lX11_speaks q.2 q.1 := by
  intro q hq
  simp only [List.mem_cons, List.not_mem_nil, or_false] at hq
  rcases hq with rfl | rfl | rfl | rfl | rfl | rfl | rfl
  · exact oX11_speaks_0 hI  
  · exact oX11_speaks_9 hI  
  · exact oX11_speaks_21 hI  
  · exact oX11_speaks_68 hI  
  · exact oX11_speaks_69 hI  
  · exact oX11_speaks_77 hI  
  · exact oX11_speaks_83 hI  
def S_X11_speaks : xS := tU fun as I Q => as = [.ref 0] ∧ t_good I ∧ t_P Q (q_speaks (tG I))
theorem body_X11_speaks : xm_Body 4 0 0 0 [] lX11_speaks kX11_speaks S_X11_speaks := by
  intro X avs w Q QX hX0 hS
  have hG := xm_go [] hX0
  have hX := xm_go [9,21] hX0
  clear hX0
  obtain ⟨I, rfl, rfl, hg, hQ⟩ := hS
  refine ⟨rfl, ?_⟩
  repeat' (first
    | ((with_reducible refine @And.intro (vp_in _ _) _ ?_ ?_); (· (first | with_reducible assumption | ((with_reducible refine t_vin ?_); decide) | ((with_reducible refine vp_in_nI ?_ ?_) <;> first | omega | decide) | (simp (disch := omega) only [xl_n, xl_m, nI_dec, nI_sb, nI_add, pk_mul]; (with_reducible refine vp_in_nI ?_ ?_) <;> first | omega | decide))); (conv => whnf))
    | (refine And.intro (by first | with_reducible assumption | exact (show tL _ = _ from rfl) | decide) ?_; (conv => whnf))
    | ((with_reducible refine @And.intro (_ = _) _ ?_ ?_); (· rfl); (conv => whnf))
    | ((with_reducible refine @And.intro (@LE.le Nat _ _ _) _ ?_ ?_); (· (first | exact Nat.zero_le _ | exact Nat.le_of_ble_eq_true rfl | omega)); (conv => whnf))
    | ((with_reducible refine @And.intro (@LT.lt Nat _ _ _) _ ?_ ?_); (· omega); (conv => whnf))
    | ((with_reducible refine @And.intro (∃ _, _ = _) _ ?_ ?_); (· exact ⟨_, rfl⟩); (conv => whnf))
    | ((with_reducible refine @And.intro (_ ∨ _) _ ?_ ?_); (· (first | exact Or.inl rfl | exact Or.inr rfl | exact t_b01 _ | assumption)); (conv => whnf))
    | ((with_reducible refine @And.intro (¬ (_ = _)) _ ?_ ?_); (· first | assumption | (with_reducible assumption)); (conv => whnf))
    | (refine hX _ _ _ _ _ _ ?_; (conv => whnf); fail_if_success show False)
    | fail)
  rw [t_si]
  obtain ⟨J, hJ, hg1, hG1, h01⟩ := t_pub hg
  rw [← hJ]
  rw [← hG1] at hQ
  clear hJ hG1 hg I
  have hg := hg1
  have hok := hg.1
  have hl := hg.2.1
  have h8 := hok.2.2.2.1
  have h9 := hok.2.1
  (conv => whnf)
  have hn := hok.1
  have loop : ∀ k, k ≤ t_h J → ∀ o, (o = none ∨ ∃ z, o = some (.int z)) → X 9 [some (.ref 0), some (.int (g_spk (tG J) k)), some (.int (nI k)), o] [] (tW J) 0 0 := by
    refine t_for fun k h1 ih o ho => ?_
    have inner : k < t_h J → ∀ j, j ≤ k → X 21 [some (.ref 0), some (.int (g_spkr (tG J) k j (g_spk (tG J) k))), some (.int (nI k)), some (.int (nI j))] [] (tW J) 0 0 := by
      intro hk
      refine t_for fun j j1 jh => ?_
      refine hG _ _ _ _ _ _ ?_
      (conv => whnf)
      repeat' (first
        | ((with_reducible refine @And.intro (vp_in _ _) _ ?_ ?_); (· (first | with_reducible assumption | ((with_reducible refine t_vin ?_); decide) | ((with_reducible refine vp_in_nI ?_ ?_) <;> first | omega | decide) | (simp (disch := omega) only [xl_n, xl_m, nI_dec, nI_sb, nI_add, pk_mul]; (with_reducible refine vp_in_nI ?_ ?_) <;> first | omega | decide))); (conv => whnf))
        | (refine And.intro (by first | with_reducible assumption | exact (show tL _ = _ from rfl) | decide) ?_; (conv => whnf))
        | ((with_reducible refine @And.intro (_ = _) _ ?_ ?_); (· rfl); (conv => whnf))
        | ((with_reducible refine @And.intro (@LE.le Nat _ _ _) _ ?_ ?_); (· (first | exact Nat.zero_le _ | exact Nat.le_of_ble_eq_true rfl | omega)); (conv => whnf))
        | ((with_reducible refine @And.intro (@LT.lt Nat _ _ _) _ ?_ ?_); (· omega); (conv => whnf))
        | ((with_reducible refine @And.intro (∃ _, _ = _) _ ?_ ?_); (· exact ⟨_, rfl⟩); (conv => whnf))
        | ((with_reducible refine @And.intro (_ ∨ _) _ ?_ ?_); (· (first | exact Or.inl rfl | exact Or.inr rfl | exact t_b01 _ | assumption)); (conv => whnf))
        | ((with_reducible refine @And.intro (¬ (_ = _)) _ ?_ ?_); (· first | assumption | (with_reducible assumption)); (conv => whnf))
        | (refine hX _ _ _ _ _ _ ?_; (conv => whnf); fail_if_success show False)
        | (rw [t_si]; (conv => whnf))
        | (refine ⟨_, rfl, ?_⟩; (conv => whnf))
        | (refine ⟨_, _, rfl, ?_⟩; (conv => whnf))
        | (refine ⟨_, _, _, rfl, ?_⟩; (conv => whnf))
        | (refine ⟨_, _, _, _, rfl, ?_⟩; (conv => whnf))
        | fail)
      refine And.intro (fun c => ?_) (fun c => ?_) <;> (conv => whnf)
      · have : j = k := Nat.le_antisymm j1 (t_kge rfl c (by omega) (by omega))
        subst this
        have nx := ih (j + 1) (by omega) (by omega) (some (.int (nI j))) (Or.inr ⟨_, rfl⟩)
        clear ih jh
        repeat' (first
          | ((with_reducible refine @And.intro (vp_in _ _) _ ?_ ?_); (· (first | with_reducible assumption | ((with_reducible refine t_vin ?_); decide) | ((with_reducible refine vp_in_nI ?_ ?_) <;> first | omega | decide) | (simp (disch := omega) only [xl_n, xl_m, nI_dec, nI_sb, nI_add, pk_mul]; (with_reducible refine vp_in_nI ?_ ?_) <;> first | omega | decide))); (conv => whnf))
          | (refine And.intro (by first | with_reducible assumption | exact (show tL _ = _ from rfl) | decide) ?_; (conv => whnf))
          | ((with_reducible refine @And.intro (_ = _) _ ?_ ?_); (· rfl); (conv => whnf))
          | ((with_reducible refine @And.intro (@LE.le Nat _ _ _) _ ?_ ?_); (· (first | exact Nat.zero_le _ | exact Nat.le_of_ble_eq_true rfl | omega)); (conv => whnf))
          | ((with_reducible refine @And.intro (@LT.lt Nat _ _ _) _ ?_ ?_); (· omega); (conv => whnf))
          | ((with_reducible refine @And.intro (∃ _, _ = _) _ ?_ ?_); (· exact ⟨_, rfl⟩); (conv => whnf))
          | ((with_reducible refine @And.intro (_ ∨ _) _ ?_ ?_); (· (first | exact Or.inl rfl | exact Or.inr rfl | exact t_b01 _ | assumption)); (conv => whnf))
          | ((with_reducible refine @And.intro (¬ (_ = _)) _ ?_ ?_); (· first | assumption | (with_reducible assumption)); (conv => whnf))
          | (refine hX _ _ _ _ _ _ ?_; (conv => whnf); fail_if_success show False)
          | (rw [t_si]; (conv => whnf))
          | (refine ⟨_, rfl, ?_⟩; (conv => whnf))
          | (refine ⟨_, _, rfl, ?_⟩; (conv => whnf))
          | (refine ⟨_, _, _, rfl, ?_⟩; (conv => whnf))
          | (refine ⟨_, _, _, _, rfl, ?_⟩; (conv => whnf))
          | (refine And.intro (fun c => ?_) (fun c => ?_) <;> (first | (exact absurd c (by decide +kernel)) | (conv => whnf)))
          | fail)
        clear hX hG hQ
        simp (disch := omega) only [xl_n, xl_m, nI_dec, nI_sb, xl_0, xl_1, tW_i, t_bn0, t_bn1, Classical.not_not, t_lt, nI_add, nI_1, pk_mul, nI_clamp, t_si, nI_eq, nI_leI, nM_ne, nM_ne, xm_set, xm_lv0, xm_psh] at *
        rw [g_spk_s] at nx
        exact nx
      · have hj : j < k := t_klt rfl c (by omega)
        have nx := jh (j + 1) (by omega) (by omega)
        rw [g_spkr_s] at nx
        have es : gsil (tG J) k = J 18 k := if_pos (by omega)
        have e1 : g_spk1 (tG J) k j = (g_al (tK J) (tA J 36) k && g_al (tK J) (tA J 36) j && !t_has (J 18 k) j) := by
          unfold g_spk1
          rw [es]
          rfl
        rw [e1] at nx
        have hj2 : j < t_h J := by omega
        clear ih jh
        repeat' (first
          | ((with_reducible refine @And.intro (vp_in _ _) _ ?_ ?_); (· (first | with_reducible assumption | ((with_reducible refine t_vin ?_); decide) | ((with_reducible refine vp_in_nI ?_ ?_) <;> first | omega | decide) | (simp (disch := omega) only [xl_n, xl_m, nI_dec, nI_sb, nI_add, pk_mul]; (with_reducible refine vp_in_nI ?_ ?_) <;> first | omega | decide))); (conv => whnf))
          | (refine And.intro (by first | with_reducible assumption | exact (show tL _ = _ from rfl) | decide) ?_; (conv => whnf))
          | ((with_reducible refine @And.intro (_ = _) _ ?_ ?_); (· rfl); (conv => whnf))
          | ((with_reducible refine @And.intro (@LE.le Nat _ _ _) _ ?_ ?_); (· (first | exact Nat.zero_le _ | exact Nat.le_of_ble_eq_true rfl | omega)); (conv => whnf))
          | ((with_reducible refine @And.intro (@LT.lt Nat _ _ _) _ ?_ ?_); (· omega); (conv => whnf))
          | ((with_reducible refine @And.intro (∃ _, _ = _) _ ?_ ?_); (· exact ⟨_, rfl⟩); (conv => whnf))
          | ((with_reducible refine @And.intro (_ ∨ _) _ ?_ ?_); (· (first | exact Or.inl rfl | exact Or.inr rfl | exact t_b01 _ | assumption)); (conv => whnf))
          | ((with_reducible refine @And.intro (¬ (_ = _)) _ ?_ ?_); (· first | assumption | (with_reducible assumption)); (conv => whnf))
          | (refine hX _ _ _ _ _ _ ?_; (conv => whnf); fail_if_success show False)
          | (rw [t_si]; (conv => whnf))
          | (refine ⟨_, rfl, ?_⟩; (conv => whnf))
          | (refine ⟨_, _, rfl, ?_⟩; (conv => whnf))
          | (refine ⟨_, _, _, rfl, ?_⟩; (conv => whnf))
          | (refine ⟨_, _, _, _, rfl, ?_⟩; (conv => whnf))
          | (refine And.intro (fun c => ?_) (fun c => ?_) <;> (first | (exact absurd c (by decide +kernel)) | (conv => whnf)))
          | fail)
        all_goals clear hX hG hQ
        all_goals simp (disch := omega) only [xl_n, xl_m, nI_dec, nI_sb, xl_0, xl_1, tW_i, t_bn0, t_bn1, Classical.not_not, t_lt, nI_add, nI_1, pk_mul, nI_clamp, t_si, nI_eq, nI_leI, nM_ne, nM_ne, xm_set, xm_lv0, xm_psh] at *
        all_goals simpa [*] using nx
    rcases ho with rfl | ⟨z, rfl⟩
    all_goals
      refine hG _ _ _ _ _ _ ?_
      (conv => whnf)
      repeat' (first
        | ((with_reducible refine @And.intro (vp_in _ _) _ ?_ ?_); (· (first | with_reducible assumption | ((with_reducible refine t_vin ?_); decide) | ((with_reducible refine vp_in_nI ?_ ?_) <;> first | omega | decide) | (simp (disch := omega) only [xl_n, xl_m, nI_dec, nI_sb, nI_add, pk_mul]; (with_reducible refine vp_in_nI ?_ ?_) <;> first | omega | decide))); (conv => whnf))
        | (refine And.intro (by first | with_reducible assumption | exact (show tL _ = _ from rfl) | decide) ?_; (conv => whnf))
        | ((with_reducible refine @And.intro (_ = _) _ ?_ ?_); (· rfl); (conv => whnf))
        | ((with_reducible refine @And.intro (@LE.le Nat _ _ _) _ ?_ ?_); (· (first | exact Nat.zero_le _ | exact Nat.le_of_ble_eq_true rfl | omega)); (conv => whnf))
        | ((with_reducible refine @And.intro (@LT.lt Nat _ _ _) _ ?_ ?_); (· omega); (conv => whnf))
        | ((with_reducible refine @And.intro (∃ _, _ = _) _ ?_ ?_); (· exact ⟨_, rfl⟩); (conv => whnf))
        | ((with_reducible refine @And.intro (_ ∨ _) _ ?_ ?_); (· (first | exact Or.inl rfl | exact Or.inr rfl | exact t_b01 _ | assumption)); (conv => whnf))
        | ((with_reducible refine @And.intro (¬ (_ = _)) _ ?_ ?_); (· first | assumption | (with_reducible assumption)); (conv => whnf))
        | (refine hX _ _ _ _ _ _ ?_; (conv => whnf); fail_if_success show False)
        | (rw [t_si]; (conv => whnf))
        | (refine ⟨_, rfl, ?_⟩; (conv => whnf))
        | (refine ⟨_, _, rfl, ?_⟩; (conv => whnf))
        | (refine ⟨_, _, _, rfl, ?_⟩; (conv => whnf))
        | (refine ⟨_, _, _, _, rfl, ?_⟩; (conv => whnf))
        | fail)
      refine And.intro (fun c => ?_) (fun c => ?_) <;> (conv => whnf)
      · repeat' (first
          | ((with_reducible refine @And.intro (vp_in _ _) _ ?_ ?_); (· (first | with_reducible assumption | ((with_reducible refine t_vin ?_); decide) | ((with_reducible refine vp_in_nI ?_ ?_) <;> first | omega | decide) | (simp (disch := omega) only [xl_n, xl_m, nI_dec, nI_sb, nI_add, pk_mul]; (with_reducible refine vp_in_nI ?_ ?_) <;> first | omega | decide))); (conv => whnf))
          | (refine And.intro (by first | with_reducible assumption | exact (show tL _ = _ from rfl) | decide) ?_; (conv => whnf))
          | ((with_reducible refine @And.intro (_ = _) _ ?_ ?_); (· rfl); (conv => whnf))
          | ((with_reducible refine @And.intro (@LE.le Nat _ _ _) _ ?_ ?_); (· (first | exact Nat.zero_le _ | exact Nat.le_of_ble_eq_true rfl | omega)); (conv => whnf))
          | ((with_reducible refine @And.intro (@LT.lt Nat _ _ _) _ ?_ ?_); (· omega); (conv => whnf))
          | ((with_reducible refine @And.intro (∃ _, _ = _) _ ?_ ?_); (· exact ⟨_, rfl⟩); (conv => whnf))
          | ((with_reducible refine @And.intro (_ ∨ _) _ ?_ ?_); (· (first | exact Or.inl rfl | exact Or.inr rfl | exact t_b01 _ | assumption)); (conv => whnf))
          | ((with_reducible refine @And.intro (¬ (_ = _)) _ ?_ ?_); (· first | assumption | (with_reducible assumption)); (conv => whnf))
          | (refine hX _ _ _ _ _ _ ?_; (conv => whnf); fail_if_success show False)
          | (rw [t_si]; (conv => whnf))
          | (refine ⟨_, rfl, ?_⟩; (conv => whnf))
          | (refine ⟨_, _, rfl, ?_⟩; (conv => whnf))
          | (refine ⟨_, _, _, rfl, ?_⟩; (conv => whnf))
          | (refine ⟨_, _, _, _, rfl, ?_⟩; (conv => whnf))
          | (refine And.intro (fun c => ?_) (fun c => ?_) <;> (first | (exact absurd c (by decide +kernel)) | (conv => whnf)))
          | fail)
        have : k = t_h J := Nat.le_antisymm h1 (t_kge hn c (by omega) (by omega))
        subst this
        exact t_ask hQ hg t_sp.rf h01 rfl
      · have hk : k < t_h J := t_klt hn c (by omega)
        repeat' (first
          | ((with_reducible refine @And.intro (vp_in _ _) _ ?_ ?_); (· (first | with_reducible assumption | ((with_reducible refine t_vin ?_); decide) | ((with_reducible refine vp_in_nI ?_ ?_) <;> first | omega | decide) | (simp (disch := omega) only [xl_n, xl_m, nI_dec, nI_sb, nI_add, pk_mul]; (with_reducible refine vp_in_nI ?_ ?_) <;> first | omega | decide))); (conv => whnf))
          | (refine And.intro (by first | with_reducible assumption | exact (show tL _ = _ from rfl) | decide) ?_; (conv => whnf))
          | ((with_reducible refine @And.intro (_ = _) _ ?_ ?_); (· rfl); (conv => whnf))
          | ((with_reducible refine @And.intro (@LE.le Nat _ _ _) _ ?_ ?_); (· (first | exact Nat.zero_le _ | exact Nat.le_of_ble_eq_true rfl | omega)); (conv => whnf))
          | ((with_reducible refine @And.intro (@LT.lt Nat _ _ _) _ ?_ ?_); (· omega); (conv => whnf))
          | ((with_reducible refine @And.intro (∃ _, _ = _) _ ?_ ?_); (· exact ⟨_, rfl⟩); (conv => whnf))
          | ((with_reducible refine @And.intro (_ ∨ _) _ ?_ ?_); (· (first | exact Or.inl rfl | exact Or.inr rfl | exact t_b01 _ | assumption)); (conv => whnf))
          | ((with_reducible refine @And.intro (¬ (_ = _)) _ ?_ ?_); (· first | assumption | (with_reducible assumption)); (conv => whnf))
          | (refine hX _ _ _ _ _ _ ?_; (conv => whnf); fail_if_success show False)
          | (rw [t_si]; (conv => whnf))
          | (refine ⟨_, rfl, ?_⟩; (conv => whnf))
          | (refine ⟨_, _, rfl, ?_⟩; (conv => whnf))
          | (refine ⟨_, _, _, rfl, ?_⟩; (conv => whnf))
          | (refine ⟨_, _, _, _, rfl, ?_⟩; (conv => whnf))
          | (refine And.intro (fun c => ?_) (fun c => ?_) <;> (first | (exact absurd c (by decide +kernel)) | (conv => whnf)))
          | fail)
        exact inner hk 0 (Nat.zero_le _)
  repeat' (first
    | ((with_reducible refine @And.intro (vp_in _ _) _ ?_ ?_); (· (first | with_reducible assumption | ((with_reducible refine t_vin ?_); decide) | ((with_reducible refine vp_in_nI ?_ ?_) <;> first | omega | decide) | (simp (disch := omega) only [xl_n, xl_m, nI_dec, nI_sb, nI_add, pk_mul]; (with_reducible refine vp_in_nI ?_ ?_) <;> first | omega | decide))); (conv => whnf))
    | (refine And.intro (by first | with_reducible assumption | exact (show tL _ = _ from rfl) | decide) ?_; (conv => whnf))
    | ((with_reducible refine @And.intro (_ = _) _ ?_ ?_); (· rfl); (conv => whnf))
    | ((with_reducible refine @And.intro (@LE.le Nat _ _ _) _ ?_ ?_); (· (first | exact Nat.zero_le _ | exact Nat.le_of_ble_eq_true rfl | omega)); (conv => whnf))
    | ((with_reducible refine @And.intro (@LT.lt Nat _ _ _) _ ?_ ?_); (· omega); (conv => whnf))
    | ((with_reducible refine @And.intro (∃ _, _ = _) _ ?_ ?_); (· exact ⟨_, rfl⟩); (conv => whnf))
    | ((with_reducible refine @And.intro (_ ∨ _) _ ?_ ?_); (· (first | exact Or.inl rfl | exact Or.inr rfl | exact t_b01 _ | assumption)); (conv => whnf))
    | ((with_reducible refine @And.intro (¬ (_ = _)) _ ?_ ?_); (· first | assumption | (with_reducible assumption)); (conv => whnf))
    | (refine hX _ _ _ _ _ _ ?_; (conv => whnf); fail_if_success show False)
    | (rw [t_si]; (conv => whnf))
    | (refine ⟨_, rfl, ?_⟩; (conv => whnf))
    | (refine ⟨_, _, rfl, ?_⟩; (conv => whnf))
    | (refine ⟨_, _, _, rfl, ?_⟩; (conv => whnf))
    | (refine ⟨_, _, _, _, rfl, ?_⟩; (conv => whnf))
    | (refine And.intro (fun c => ?_) (fun c => ?_) <;> (first | (exact absurd c (by decide +kernel)) | (conv => whnf)))
    | fail)
  exact loop 0 (Nat.zero_le _) none (Or.inl rfl)
theorem ct_X11_speaks {Iv : xI} (hI : xm_good Iv) : xm_Ct Iv yX11_speaks (ws_ yX11_speaks cX11_speaks 4 (some .int)) 3 0 0 S_X11_speaks := xm_enter (rt := 0) (init := false) (by decide +kernel) rfl (fun h => by cases h) (Or.inl ⟨rfl, rfl⟩) (oX11_speaks hI) body_X11_speaks
theorem cv_X11_speaks {Iv : xI} {own : String} {cc : ByteArray} {fr pc idx : Nat} (hI : xm_good Iv) (hdg : decode cc pc = .ok (.invokevirtual idx, 3)) (hl : xm_ml own idx yX11_speaks) (hfr : 3 < fr) : xm_CallOK Iv own cc fr pc (pc + 3) 1 0 0 (xm_this 8 S_X11_speaks) := xm_callV 8 hI (ct_X11_speaks hI) hdg hl q2545 q2546 q145 q2547 rfl rfl (by decide +kernel) hfr (by decide)
