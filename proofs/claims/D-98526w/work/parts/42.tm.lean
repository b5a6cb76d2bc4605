/-! ===== the reference: what is told ===== -/
set_option maxRecDepth 100000
def g_toldv (G : gG) (k : Nat) : Int32 := match k with
  | 0 => nI (gn (gGK G))
  | 1 => nI (gm (gGK G))
  | 2 => nI (gacts G)
  | 3 => gy (gnow G)
  | 4 => t_ones (g_alive (gGK G) (gnow G))
  | 5 => g_strs (gGK G) (gnow G)
  | _ => nI (glns G)
def q_told (G : gG) (a : Int32) : gR := g_ck G (t_in a (nI 0) (nI 6)) (nI 1) 1 (g_says G (g_toldv G a.toNatClampNeg))
abbrev bX11_told_0 : List xE := [(.aload_n 0, 1, 0, 0, 0), (.iconst 0, 2, 0, 0, 0), (.putfield 134, 5, 8, 0, 0), (.aload_n 0, 6, 0, 0, 0), (.iload_n 1, 7, 0, 0, 0), (.iconst 0, 8, 0, 0, 0), (.bipush 6, 10, 0, 0, 0), (.invokestatic 168, 13, 0, 0, 9), (.ifCond .ne 7, 16, 0, 20, 0), (.iconst 1, 17, 0, 0, 0), (.goto 4, 20, 0, 21, 0)]
abbrev bX11_told_20 : List xE := [(.iconst 0, 21, 0, 0, 0)]
abbrev bX11_told_21 : List xE := [(.iconst 1, 22, 0, 0, 0), (.iconst 1, 23, 0, 0, 0), (.invokevirtual 249, 26, 0, 1, 9), (.ifCond .eq 5, 29, 0, 31, 0), (.iconst 0, 30, 0, 0, 0), (.ireturn, 31, 0, 0, 0)]
abbrev bX11_told_31 : List xE := [(.iload_n 1, 32, 0, 0, 0), (.tableswitch 76 0 5 #[40, 40, 40, 47, 55, 67], 72, 0, 0, 0)]
abbrev bX11_told_72 : List xE := [(.aload_n 0, 73, 0, 0, 0), (.getfield 23, 76, 8, 12, 1), (.iload_n 1, 77, 0, 0, 0), (.iaload, 78, 0, 0, 0), (.ireturn, 79, 0, 0, 0)]
abbrev bX11_told_79 : List xE := [(.aload_n 0, 80, 0, 0, 0), (.getfield 91, 83, 8, 36, 1), (.bipush 106, 85, 0, 0, 0), (.iaload, 86, 0, 0, 0), (.ireturn, 87, 0, 0, 0)]
abbrev bX11_told_87 : List xE := [(.aload_n 0, 88, 0, 0, 0), (.aload_n 0, 89, 0, 0, 0), (.getfield 91, 92, 8, 36, 1), (.invokevirtual 324, 95, 0, 2, 9), (.invokestatic 246, 98, 0, 3, 9), (.ireturn, 99, 0, 0, 0)]
abbrev bX11_told_99 : List xE := [(.aload_n 0, 100, 0, 0, 0), (.aload_n 0, 101, 0, 0, 0), (.getfield 91, 104, 8, 36, 1), (.invokevirtual 328, 107, 0, 4, 9), (.ireturn, 108, 0, 0, 0)]
abbrev bX11_told_108 : List xE := [(.aload_n 0, 109, 0, 0, 0), (.getfield 273, 112, 8, 41, 0), (.ireturn, 113, 0, 0, 0)]
abbrev kX11_told : List (Nat × List xE) := [(0, bX11_told_0), (20, bX11_told_20), (21, bX11_told_21), (31, bX11_told_31), (72, bX11_told_72), (79, bX11_told_79), (87, bX11_told_87), (99, bX11_told_99), (108, bX11_told_108)]
abbrev lX11_told : List (Nat × Nat × Nat × xS) := [(3, 0, 0, S_X11_in), (4, 0, 0, xm_this 8 S_X11_bad), (2, 0, 0, xm_this 8 S_X11_aliveOf), (1, 0, 0, S_X11_ones), (2, 0, 0, xm_this 8 S_X11_stringsOf)]
theorem oX11_told_0 {Iv : xI} (hI : xm_good Iv)  : xm_okb Iv RX11 cX11_told false 4 lX11_told bX11_told_0 0 := xo_0 dX11_told_0 rfl trivial (xo_0 dX11_told_1 rfl trivial (xo_0 dX11_told_2 rfl (xm_fp_of (xm_fg_of (Or.inl q1955) (by decide) rfl (by decide) rfl rfl (Or.inl rfl) rfl) (by decide) rfl (Or.inl ⟨rfl, rfl⟩) rfl) (xo_0 dX11_told_5 rfl trivial (xo_0 dX11_told_6 rfl trivial (xo_0 dX11_told_7 rfl trivial (xo_0 dX11_told_8 rfl (xo_bipush (by decide +kernel)) (xo_c rfl (cv_X11_in hI dX11_told_10 (Or.inl q1942) (by decide)) (xo_0 dX11_told_13 rfl rfl (xo_0 dX11_told_16 rfl trivial (xo_0 dX11_told_17 rfl rfl (xo_n)))))))))))
theorem oX11_told_20 {Iv : xI} (hI : xm_good Iv)  : xm_okb Iv RX11 cX11_told false 4 lX11_told bX11_told_20 20 := xo_0 dX11_told_20 rfl trivial (xo_n)
theorem oX11_told_21 {Iv : xI} (hI : xm_good Iv)  : xm_okb Iv RX11 cX11_told false 4 lX11_told bX11_told_21 21 := xo_0 dX11_told_21 rfl trivial (xo_0 dX11_told_22 rfl trivial (xo_c rfl (cv_X11_bad hI dX11_told_23 (Or.inl q2137) (by decide)) (xo_0 dX11_told_26 rfl rfl (xo_0 dX11_told_29 rfl trivial (xo_0 dX11_told_30 rfl trivial (xo_n))))))
theorem oX11_told_31 {Iv : xI} (hI : xm_good Iv)  : xm_okb Iv RX11 cX11_told false 4 lX11_told bX11_told_31 31 := xo_0 dX11_told_31 rfl trivial (xo_s dX11_told_32 rfl (xo_tableswitch (by decide +kernel)) (xo_n))
theorem oX11_told_72 {Iv : xI} (hI : xm_good Iv)  : xm_okb Iv RX11 cX11_told false 4 lX11_told bX11_told_72 72 := xo_0 dX11_told_72 rfl trivial (xo_1 dX11_told_73 rfl (xm_fg_of (Or.inl q1967) (by decide) rfl (by decide) rfl rfl (Or.inl rfl) rfl) (xo_0 dX11_told_76 rfl trivial (xo_0 dX11_told_77 rfl trivial (xo_0 dX11_told_78 rfl trivial (xo_n)))))
theorem oX11_told_79 {Iv : xI} (hI : xm_good Iv)  : xm_okb Iv RX11 cX11_told false 4 lX11_told bX11_told_79 79 := xo_0 dX11_told_79 rfl trivial (xo_1 dX11_told_80 rfl (xm_fg_of (Or.inl q1991) (by decide) rfl (by decide) rfl rfl (Or.inl rfl) rfl) (xo_0 dX11_told_83 rfl (xo_bipush (by decide +kernel)) (xo_0 dX11_told_85 rfl trivial (xo_0 dX11_told_86 rfl trivial (xo_n)))))
theorem oX11_told_87 {Iv : xI} (hI : xm_good Iv)  : xm_okb Iv RX11 cX11_told false 4 lX11_told bX11_told_87 87 := xo_0 dX11_told_87 rfl trivial (xo_0 dX11_told_88 rfl trivial (xo_1 dX11_told_89 rfl (xm_fg_of (Or.inl q1991) (by decide) rfl (by decide) rfl rfl (Or.inl rfl) rfl) (xo_c rfl (cv_X11_aliveOf hI dX11_told_92 (Or.inl q2288) (by decide)) (xo_c rfl (cv_X11_ones hI dX11_told_95 (Or.inl q2218) (by decide)) (xo_0 dX11_told_98 rfl trivial (xo_n))))))
theorem oX11_told_99 {Iv : xI} (hI : xm_good Iv)  : xm_okb Iv RX11 cX11_told false 4 lX11_told bX11_told_99 99 := xo_0 dX11_told_99 rfl trivial (xo_0 dX11_told_100 rfl trivial (xo_1 dX11_told_101 rfl (xm_fg_of (Or.inl q1991) (by decide) rfl (by decide) rfl rfl (Or.inl rfl) rfl) (xo_c rfl (cv_X11_stringsOf hI dX11_told_104 (Or.inl q2296) (by decide)) (xo_0 dX11_told_107 rfl trivial (xo_n)))))
theorem oX11_told_108 {Iv : xI} (hI : xm_good Iv)  : xm_okb Iv RX11 cX11_told false 4 lX11_told bX11_told_108 108 := xo_0 dX11_told_108 rfl trivial (xo_0 dX11_told_109 rfl (xm_fg_of (Or.inl q1996) (by decide) rfl (by decide) rfl rfl (Or.inl rfl) rfl) (xo_0 dX11_told_112 rfl trivial (xo_n)))
theorem oX11_told {Iv : xI} (hI : xm_good Iv)  : ∀ q ∈ kX11_told, xm_okb Iv RX11 cX11_told false 4 lX11_told q.2 q.1 := by
  intro q hq
  simp only [List.mem_cons, List.not_mem_nil, or_false] at hq
  rcases hq with rfl | rfl | rfl | rfl | rfl | rfl | rfl | rfl | rfl
  · exact oX11_told_0 hI  
  · exact oX11_told_20 hI  
  · exact oX11_told_21 hI  
  · exact oX11_told_31 hI  
  · exact oX11_told_72 hI  
  · exact oX11_told_79 hI  
  · exact oX11_told_87 hI  
  · exact oX11_told_99 hI  
  · exact oX11_told_108 hI  
def S_X11_told : xS := tU fun as I Q => ∃ a, as = [.ref 0, .int a] ∧ t_good I ∧ t_P Q (q_told (tG I) a)
theorem body_X11_told : xm_Body 2 0 0 0 [] lX11_told kX11_told S_X11_told := by
  intro X avs w Q QX hX0 hS
  have hG := xm_go [] hX0
  have hX := xm_go [] hX0
  clear hX0
  obtain ⟨I, rfl, a, rfl, hg, hQ⟩ := hS
  refine ⟨rfl, ?_⟩
  repeat' (first
    | ((with_reducible refine @And.intro (vp_in _ _) _ ?_ ?_); (· (first | with_reducible assumption | ((with_reducible refine t_vin ?_); decide) | ((with_reducible refine vp_in_nI ?_ ?_) <;> first | omega | decide) | (simp (disch := omega) only [xl_n, xl_m, nI_dec, nI_sb, nI_add, pk_mul]; (with_reducible refine vp_in_nI ?_ ?_) <;> first | omega | decide))); (conv => whnf))
    | (refine And.intro (by first | with_reducible assumption | exact (show tL _ = _ from rfl) | decide) ?_; (conv => whnf))
    | ((with_reducible refine @And.intro (_ = _) _ ?_ ?_); (· rfl); (conv => whnf))
    | ((with_reducible refine @And.intro (@LE.le Nat _ _ _) _ ?_ ?_); (· (first | exact Nat.zero_le _ | exact Nat.le_of_ble_eq_true rfl | omega)); (conv => whnf))
    | ((with_reducible refine @And.intro (@LT.lt Nat _ _ _) _ ?_ ?_); (· omega); (conv => whnf))
    | ((with_reducible refine @And.intro (∃ _, _ = _) _ ?_ ?_); (· exact ⟨_, rfl⟩); (conv => whnf))
    | ((with_reducible refine @And.intro (_ ∨ _) _ ?_ ?_); (· (first | exact Or.inl rfl | exact Or.inr rfl | exact t_b01 _ | assumption)); (conv => whnf))
    | ((with_reducible refine @And.intro (¬ (_ = _)) _ ?_ ?_); (· first | assumption | (with_reducible assumption)); (conv => whnf))
    | (refine hX _ _ _ _ _ _ ?_; (conv => whnf); fail_if_success show False)
    | fail)
  rw [t_si]
  obtain ⟨J, hJ, hg1, hG1, h01⟩ := t_pub hg
  rw [← hJ]
  rw [← hG1] at hQ
  clear hJ hG1 hg I
  have hg := hg1
  have hok := hg.1
  have hl := hg.2.1
  have h8 := hok.2.2.2.1
  have h9 := hok.2.1
  (conv => whnf)
  rcases t_rc a 0 6 (L := Int32.ofInt 0) (H := Int32.ofInt 6) (by decide +kernel) (by decide +kernel) (by omega) (by omega) with ⟨n, -, hn, rfl, e1, f1⟩ | ⟨e1, f1⟩
  · rw [q_told, f1, g_ck_t, nI_clamp (by omega)] at hQ
    have q : n = 0 ∨ n = 1 ∨ n = 2 ∨ n = 3 ∨ n = 4 ∨ n = 5 ∨ n = 6 := by omega
    rcases q with rfl | rfl | rfl | rfl | rfl | rfl | rfl
    all_goals
      repeat' (first
        | ((with_reducible refine @And.intro (vp_in _ _) _ ?_ ?_); (· (first | with_reducible assumption | ((with_reducible refine t_vin ?_); decide) | ((with_reducible refine vp_in_nI ?_ ?_) <;> first | omega | decide) | (simp (disch := omega) only [xl_n, xl_m, nI_dec, nI_sb, nI_add, pk_mul]; (with_reducible refine vp_in_nI ?_ ?_) <;> first | omega | decide))); (conv => whnf))
        | (refine And.intro (by first | with_reducible assumption | exact (show tL _ = _ from rfl) | decide) ?_; (conv => whnf))
        | ((with_reducible refine @And.intro (_ = _) _ ?_ ?_); (· rfl); (conv => whnf))
        | ((with_reducible refine @And.intro (@LE.le Nat _ _ _) _ ?_ ?_); (· (first | exact Nat.zero_le _ | exact Nat.le_of_ble_eq_true rfl | omega)); (conv => whnf))
        | ((with_reducible refine @And.intro (@LT.lt Nat _ _ _) _ ?_ ?_); (· omega); (conv => whnf))
        | ((with_reducible refine @And.intro (∃ _, _ = _) _ ?_ ?_); (· exact ⟨_, rfl⟩); (conv => whnf))
        | ((with_reducible refine @And.intro (_ ∨ _) _ ?_ ?_); (· (first | exact Or.inl rfl | exact Or.inr rfl | exact t_b01 _ | assumption)); (conv => whnf))
        | ((with_reducible refine @And.intro (¬ (_ = _)) _ ?_ ?_); (· first | assumption | (with_reducible assumption)); (conv => whnf))
        | (refine hX _ _ _ _ _ _ ?_; (conv => whnf); fail_if_success show False)
        | (rw [t_si]; (conv => whnf))
        | (refine ⟨_, rfl, ?_⟩; (conv => whnf))
        | (refine ⟨_, _, rfl, ?_⟩; (conv => whnf))
        | (refine ⟨_, _, _, rfl, ?_⟩; (conv => whnf))
        | (refine ⟨_, _, _, _, rfl, ?_⟩; (conv => whnf))
        | (rw [e1]; (conv => whnf))
        | (refine And.intro (fun c => ?_) (fun c => ?_) <;> (first | (exact absurd c (by decide +kernel)) | (conv => whnf)))
        | fail)
      simp (disch := omega) [xm_tsw, xm_tgt, xl_n, nI_eq, nI_toInt]
      repeat' (first
        | ((with_reducible refine @And.intro (vp_in _ _) _ ?_ ?_); (· (first | with_reducible assumption | ((with_reducible refine t_vin ?_); decide) | ((with_reducible refine vp_in_nI ?_ ?_) <;> first | omega | decide) | (simp (disch := omega) only [xl_n, xl_m, nI_dec, nI_sb, nI_add, pk_mul]; (with_reducible refine vp_in_nI ?_ ?_) <;> first | omega | decide))); (conv => whnf))
        | (refine And.intro (by first | with_reducible assumption | exact (show tL _ = _ from rfl) | decide) ?_; (conv => whnf))
        | ((with_reducible refine @And.intro (_ = _) _ ?_ ?_); (· rfl); (conv => whnf))
        | ((with_reducible refine @And.intro (@LE.le Nat _ _ _) _ ?_ ?_); (· (first | exact Nat.zero_le _ | exact Nat.le_of_ble_eq_true rfl | omega)); (conv => whnf))
        | ((with_reducible refine @And.intro (@LT.lt Nat _ _ _) _ ?_ ?_); (· omega); (conv => whnf))
        | ((with_reducible refine @And.intro (∃ _, _ = _) _ ?_ ?_); (· exact ⟨_, rfl⟩); (conv => whnf))
        | ((with_reducible refine @And.intro (_ ∨ _) _ ?_ ?_); (· (first | exact Or.inl rfl | exact Or.inr rfl | exact t_b01 _ | assumption)); (conv => whnf))
        | ((with_reducible refine @And.intro (¬ (_ = _)) _ ?_ ?_); (· first | assumption | (with_reducible assumption)); (conv => whnf))
        | (refine hX _ _ _ _ _ _ ?_; (conv => whnf); fail_if_success show False)
        | (rw [t_si]; (conv => whnf))
        | (refine ⟨_, rfl, ?_⟩; (conv => whnf))
        | (refine ⟨_, _, rfl, ?_⟩; (conv => whnf))
        | (refine ⟨_, _, _, rfl, ?_⟩; (conv => whnf))
        | (refine ⟨_, _, _, _, rfl, ?_⟩; (conv => whnf))
        | (refine And.intro (fun c => ?_) (fun c => ?_) <;> (first | (exact absurd c (by decide +kernel)) | (conv => whnf)))
        | fail)
    · exact t_ask hQ hg t_sp.rf h01 hok.1
    · exact t_ask hQ hg t_sp.rf h01 hok.2.2.1
    · exact t_ask hQ hg t_sp.rf h01 hok.2.2.2.2.1
    · exact t_ask hQ hg t_sp.rf h01 rfl
    · exact t_ask hQ hg t_sp.rf h01 rfl
    · exact t_ask hQ hg t_sp.rf h01 rfl
    · exact t_ask hQ hg t_sp.rf h01 hg.2.2.2.1.1
  · repeat' (first
      | ((with_reducible refine @And.intro (vp_in _ _) _ ?_ ?_); (· (first | with_reducible assumption | ((with_reducible refine t_vin ?_); decide) | ((with_reducible refine vp_in_nI ?_ ?_) <;> first | omega | decide) | (simp (disch := omega) only [xl_n, xl_m, nI_dec, nI_sb, nI_add, pk_mul]; (with_reducible refine vp_in_nI ?_ ?_) <;> first | omega | decide))); (conv => whnf))
      | (refine And.intro (by first | with_reducible assumption | exact (show tL _ = _ from rfl) | decide) ?_; (conv => whnf))
      | ((with_reducible refine @And.intro (_ = _) _ ?_ ?_); (· rfl); (conv => whnf))
      | ((with_reducible refine @And.intro (@LE.le Nat _ _ _) _ ?_ ?_); (· (first | exact Nat.zero_le _ | exact Nat.le_of_ble_eq_true rfl | omega)); (conv => whnf))
      | ((with_reducible refine @And.intro (@LT.lt Nat _ _ _) _ ?_ ?_); (· omega); (conv => whnf))
      | ((with_reducible refine @And.intro (∃ _, _ = _) _ ?_ ?_); (· exact ⟨_, rfl⟩); (conv => whnf))
      | ((with_reducible refine @And.intro (_ ∨ _) _ ?_ ?_); (· (first | exact Or.inl rfl | exact Or.inr rfl | exact t_b01 _ | assumption)); (conv => whnf))
      | ((with_reducible refine @And.intro (¬ (_ = _)) _ ?_ ?_); (· first | assumption | (with_reducible assumption)); (conv => whnf))
      | (refine hX _ _ _ _ _ _ ?_; (conv => whnf); fail_if_success show False)
      | (rw [t_si]; (conv => whnf))
      | (refine ⟨_, rfl, ?_⟩; (conv => whnf))
      | (refine ⟨_, _, rfl, ?_⟩; (conv => whnf))
      | (refine ⟨_, _, _, rfl, ?_⟩; (conv => whnf))
      | (refine ⟨_, _, _, _, rfl, ?_⟩; (conv => whnf))
      | (rw [e1]; (conv => whnf))
      | (refine And.intro (fun c => ?_) (fun c => ?_) <;> (first | (exact absurd c (by decide +kernel)) | (conv => whnf)))
      | fail)
    exact t_ref' hQ hg h01 (by simp [f1]) (by decide) rfl rfl
theorem ct_X11_told {Iv : xI} (hI : xm_good Iv) : xm_Ct Iv yX11_told (ws_ yX11_told cX11_told 2 (some .int)) 4 0 0 S_X11_told := xm_enter (rt := 0) (init := false) (by decide +kernel) rfl (fun h => by cases h) (Or.inl ⟨rfl, rfl⟩) (oX11_told hI) body_X11_told
theorem cv_X11_told {Iv : xI} {own : String} {cc : ByteArray} {fr pc idx : Nat} (hI : xm_good Iv) (hdg : decode cc pc = .ok (.invokevirtual idx, 3)) (hl : xm_ml own idx yX11_told) (hfr : 4 < fr) : xm_CallOK Iv own cc fr pc (pc + 3) 2 0 0 (xm_this 8 S_X11_told) := xm_callV 8 hI (ct_X11_told hI) hdg hl q2285 q2286 q145 q2287 rfl rfl (by decide +kernel) hfr (by decide)
def g_handv (G : gG) (h k : Nat) : Int32 := match k with
  | 0 => glimp (gGK G) h
  | 1 => gborn (gGK G) h
  | 2 => gdies (gGK G) h
  | 3 => if gd (gnow G) h = true then nI 2 else if g_al (gGK G) (gnow G) h = true then nI 1 else nI 0
  | 4 => g_work (gGK G) (gnow G) h
  | _ => t_more (nI 0) (gy (gnow G) - gborn (gGK G) h)
def q_hand (G : gG) (a b : Int32) : gR := g_ck G (g_isH G a) (nI 1) 0 (g_ck G (t_in b (nI 0) (nI 5)) (nI 2) 1 (g_says G (g_handv G a.toNatClampNeg b.toNatClampNeg)))
theorem g_handv3 {J : tI} {h : Nat} (hh : h < 9) : g_handv (tG J) h 3 = if t_has (J 36 0) h = true then nI 2 else if g_al (tK J) (tA J 36) h = true then nI 1 else nI 0 := by
  show (if gd (tA J 36) h = true then nI 2 else if g_al (tK J) (tA J 36) h = true then nI 1 else nI 0) = _
  rw [tA_gd hh]
abbrev bX11_hand_0 : List xE := [(.aload_n 0, 1, 0, 0, 0), (.iconst 0, 2, 0, 0, 0), (.putfield 134, 5, 8, 0, 0), (.aload_n 0, 6, 0, 0, 0), (.aload_n 0, 7, 0, 0, 0), (.iload_n 1, 8, 0, 0, 0), (.invokevirtual 331, 11, 0, 0, 9), (.ifCond .ne 7, 14, 0, 18, 0), (.iconst 1, 15, 0, 0, 0), (.goto 4, 18, 0, 19, 0)]
abbrev bX11_hand_18 : List xE := [(.iconst 0, 19, 0, 0, 0)]
abbrev bX11_hand_19 : List xE := [(.iconst 1, 20, 0, 0, 0), (.iconst 0, 21, 0, 0, 0), (.invokevirtual 249, 24, 0, 1, 9), (.ifCond .ne 26, 27, 0, 50, 0), (.aload_n 0, 28, 0, 0, 0), (.iload_n 2, 29, 0, 0, 0), (.iconst 0, 30, 0, 0, 0), (.iconst 5, 31, 0, 0, 0), (.invokestatic 168, 34, 0, 2, 9), (.ifCond .ne 7, 37, 0, 41, 0), (.iconst 1, 38, 0, 0, 0), (.goto 4, 41, 0, 42, 0)]
abbrev bX11_hand_41 : List xE := [(.iconst 0, 42, 0, 0, 0)]
abbrev bX11_hand_42 : List xE := [(.iconst 2, 43, 0, 0, 0), (.iconst 1, 44, 0, 0, 0), (.invokevirtual 249, 47, 0, 1, 9), (.ifCond .eq 5, 50, 0, 52, 0)]
abbrev bX11_hand_50 : List xE := [(.iconst 0, 51, 0, 0, 0), (.ireturn, 52, 0, 0, 0)]
abbrev bX11_hand_52 : List xE := [(.iload_n 2, 53, 0, 0, 0), (.tableswitch 89 0 4 #[35, 35, 35, 44, 79], 88, 0, 0, 0)]
abbrev bX11_hand_88 : List xE := [(.aload_n 0, 89, 0, 0, 0), (.getfield 49, 92, 8, 20, 1), (.iload_n 1, 93, 0, 0, 0), (.aaload, 94, 0, 0, 0), (.iload_n 2, 95, 0, 0, 0), (.iaload, 96, 0, 0, 0), (.ireturn, 97, 0, 0, 0)]
abbrev bX11_hand_97 : List xE := [(.aload_n 0, 98, 0, 0, 0), (.getfield 91, 101, 8, 36, 1), (.iconst 0, 102, 0, 0, 0), (.iaload, 103, 0, 0, 0), (.iload_n 1, 104, 0, 0, 0), (.invokestatic 242, 107, 0, 3, 9), (.ifCond .eq 7, 110, 0, 114, 0), (.iconst 2, 111, 0, 0, 0), (.goto 20, 114, 0, 131, 0)]
abbrev bX11_hand_114 : List xE := [(.aload_n 0, 115, 0, 0, 0), (.aload_n 0, 116, 0, 0, 0), (.getfield 91, 119, 8, 36, 1), (.iload_n 1, 120, 0, 0, 0), (.invokevirtual 320, 123, 0, 4, 9), (.ifCond .eq 7, 126, 0, 130, 0), (.iconst 1, 127, 0, 0, 0), (.goto 4, 130, 0, 131, 0)]
abbrev bX11_hand_130 : List xE := [(.iconst 0, 131, 0, 0, 0)]
abbrev bX11_hand_131 : List xE := [(.ireturn, 132, 0, 0, 0)]
abbrev bX11_hand_132 : List xE := [(.aload_n 0, 133, 0, 0, 0), (.aload_n 0, 134, 0, 0, 0), (.getfield 91, 137, 8, 36, 1), (.iload_n 1, 138, 0, 0, 0), (.invokevirtual 334, 141, 0, 5, 9), (.ireturn, 142, 0, 0, 0)]
abbrev bX11_hand_142 : List xE := [(.iconst 0, 143, 0, 0, 0), (.aload_n 0, 144, 0, 0, 0), (.getfield 91, 147, 8, 36, 1), (.bipush 106, 149, 0, 0, 0), (.iaload, 150, 0, 0, 0), (.aload_n 0, 151, 0, 0, 0), (.getfield 49, 154, 8, 20, 1), (.iload_n 1, 155, 0, 0, 0), (.aaload, 156, 0, 0, 0), (.iconst 1, 157, 0, 0, 0), (.iaload, 158, 0, 0, 0), (.isub, 159, 0, 0, 0), (.invokestatic 313, 162, 0, 6, 9), (.ireturn, 163, 0, 0, 0)]
abbrev kX11_hand : List (Nat × List xE) := [(0, bX11_hand_0), (18, bX11_hand_18), (19, bX11_hand_19), (41, bX11_hand_41), (42, bX11_hand_42), (50, bX11_hand_50), (52, bX11_hand_52), (88, bX11_hand_88), (97, bX11_hand_97), (114, bX11_hand_114), (130, bX11_hand_130), (131, bX11_hand_131), (132, bX11_hand_132), (142, bX11_hand_142)]
abbrev lX11_hand : List (Nat × Nat × Nat × xS) := [(2, 0, 0, xm_this 8 S_X11_isHand), (4, 0, 0, xm_this 8 S_X11_bad), (3, 0, 0, S_X11_in), (2, 0, 0, S_X11_has), (3, 0, 0, xm_this 8 S_X11_isAlive), (3, 0, 0, xm_this 8 S_X11_workOf), (2, 0, 0, S_X11_more)]
theorem oX11_hand_0 {Iv : xI} (hI : xm_good Iv)  : xm_okb Iv RX11 cX11_hand false 3 lX11_hand bX11_hand_0 0 := xo_0 dX11_hand_0 rfl trivial (xo_0 dX11_hand_1 rfl trivial (xo_0 dX11_hand_2 rfl (xm_fp_of (xm_fg_of (Or.inl q1955) (by decide) rfl (by decide) rfl rfl (Or.inl rfl) rfl) (by decide) rfl (Or.inl ⟨rfl, rfl⟩) rfl) (xo_0 dX11_hand_5 rfl trivial (xo_0 dX11_hand_6 rfl trivial (xo_0 dX11_hand_7 rfl trivial (xo_c rfl (cv_X11_isHand hI dX11_hand_8 (Or.inl q2304) (by decide)) (xo_0 dX11_hand_11 rfl rfl (xo_0 dX11_hand_14 rfl trivial (xo_0 dX11_hand_15 rfl rfl (xo_n))))))))))
theorem oX11_hand_18 {Iv : xI} (hI : xm_good Iv)  : xm_okb Iv RX11 cX11_hand false 3 lX11_hand bX11_hand_18 18 := xo_0 dX11_hand_18 rfl trivial (xo_n)
theorem oX11_hand_19 {Iv : xI} (hI : xm_good Iv)  : xm_okb Iv RX11 cX11_hand false 3 lX11_hand bX11_hand_19 19 := xo_0 dX11_hand_19 rfl trivial (xo_0 dX11_hand_20 rfl trivial (xo_c rfl (cv_X11_bad hI dX11_hand_21 (Or.inl q2137) (by decide)) (xo_0 dX11_hand_24 rfl rfl (xo_0 dX11_hand_27 rfl trivial (xo_0 dX11_hand_28 rfl trivial (xo_0 dX11_hand_29 rfl trivial (xo_0 dX11_hand_30 rfl trivial (xo_c rfl (cv_X11_in hI dX11_hand_31 (Or.inl q1942) (by decide)) (xo_0 dX11_hand_34 rfl rfl (xo_0 dX11_hand_37 rfl trivial (xo_0 dX11_hand_38 rfl rfl (xo_n))))))))))))
theorem oX11_hand_41 {Iv : xI} (hI : xm_good Iv)  : xm_okb Iv RX11 cX11_hand false 3 lX11_hand bX11_hand_41 41 := xo_0 dX11_hand_41 rfl trivial (xo_n)
theorem oX11_hand_42 {Iv : xI} (hI : xm_good Iv)  : xm_okb Iv RX11 cX11_hand false 3 lX11_hand bX11_hand_42 42 := xo_0 dX11_hand_42 rfl trivial (xo_0 dX11_hand_43 rfl trivial (xo_c rfl (cv_X11_bad hI dX11_hand_44 (Or.inl q2137) (by decide)) (xo_0 dX11_hand_47 rfl rfl (xo_n))))
theorem oX11_hand_50 {Iv : xI} (hI : xm_good Iv)  : xm_okb Iv RX11 cX11_hand false 3 lX11_hand bX11_hand_50 50 := xo_0 dX11_hand_50 rfl trivial (xo_0 dX11_hand_51 rfl trivial (xo_n))
theorem oX11_hand_52 {Iv : xI} (hI : xm_good Iv)  : xm_okb Iv RX11 cX11_hand false 3 lX11_hand bX11_hand_52 52 := xo_0 dX11_hand_52 rfl trivial (xo_s dX11_hand_53 rfl (xo_tableswitch (by decide +kernel)) (xo_n))
theorem oX11_hand_88 {Iv : xI} (hI : xm_good Iv)  : xm_okb Iv RX11 cX11_hand false 3 lX11_hand bX11_hand_88 88 := xo_0 dX11_hand_88 rfl trivial (xo_1 dX11_hand_89 rfl (xm_fg_of (Or.inl q1975) (by decide) rfl (by decide) rfl rfl (Or.inl rfl) rfl) (xo_0 dX11_hand_92 rfl trivial (xo_0 dX11_hand_93 rfl trivial (xo_0 dX11_hand_94 rfl trivial (xo_0 dX11_hand_95 rfl trivial (xo_0 dX11_hand_96 rfl trivial (xo_n)))))))
theorem oX11_hand_97 {Iv : xI} (hI : xm_good Iv)  : xm_okb Iv RX11 cX11_hand false 3 lX11_hand bX11_hand_97 97 := xo_0 dX11_hand_97 rfl trivial (xo_1 dX11_hand_98 rfl (xm_fg_of (Or.inl q1991) (by decide) rfl (by decide) rfl rfl (Or.inl rfl) rfl) (xo_0 dX11_hand_101 rfl trivial (xo_0 dX11_hand_102 rfl trivial (xo_0 dX11_hand_103 rfl trivial (xo_c rfl (cv_X11_has hI dX11_hand_104 (Or.inl q1945) (by decide)) (xo_0 dX11_hand_107 rfl rfl (xo_0 dX11_hand_110 rfl trivial (xo_0 dX11_hand_111 rfl rfl (xo_n)))))))))
theorem oX11_hand_114 {Iv : xI} (hI : xm_good Iv)  : xm_okb Iv RX11 cX11_hand false 3 lX11_hand bX11_hand_114 114 := xo_0 dX11_hand_114 rfl trivial (xo_0 dX11_hand_115 rfl trivial (xo_1 dX11_hand_116 rfl (xm_fg_of (Or.inl q1991) (by decide) rfl (by decide) rfl rfl (Or.inl rfl) rfl) (xo_0 dX11_hand_119 rfl trivial (xo_c rfl (cv_X11_isAlive hI dX11_hand_120 (Or.inl q2292) (by decide)) (xo_0 dX11_hand_123 rfl rfl (xo_0 dX11_hand_126 rfl trivial (xo_0 dX11_hand_127 rfl rfl (xo_n))))))))
theorem oX11_hand_130 {Iv : xI} (hI : xm_good Iv)  : xm_okb Iv RX11 cX11_hand false 3 lX11_hand bX11_hand_130 130 := xo_0 dX11_hand_130 rfl trivial (xo_n)
theorem oX11_hand_131 {Iv : xI} (hI : xm_good Iv)  : xm_okb Iv RX11 cX11_hand false 3 lX11_hand bX11_hand_131 131 := xo_0 dX11_hand_131 rfl trivial (xo_n)
theorem oX11_hand_132 {Iv : xI} (hI : xm_good Iv)  : xm_okb Iv RX11 cX11_hand false 3 lX11_hand bX11_hand_132 132 := xo_0 dX11_hand_132 rfl trivial (xo_0 dX11_hand_133 rfl trivial (xo_1 dX11_hand_134 rfl (xm_fg_of (Or.inl q1991) (by decide) rfl (by decide) rfl rfl (Or.inl rfl) rfl) (xo_0 dX11_hand_137 rfl trivial (xo_c rfl (cv_X11_workOf hI dX11_hand_138 (Or.inl q2308) (by decide)) (xo_0 dX11_hand_141 rfl trivial (xo_n))))))
theorem oX11_hand_142 {Iv : xI} (hI : xm_good Iv)  : xm_okb Iv RX11 cX11_hand false 3 lX11_hand bX11_hand_142 142 := xo_0 dX11_hand_142 rfl trivial (xo_0 dX11_hand_143 rfl trivial (xo_1 dX11_hand_144 rfl (xm_fg_of (Or.inl q1991) (by decide) rfl (by decide) rfl rfl (Or.inl rfl) rfl) (xo_0 dX11_hand_147 rfl (xo_bipush (by decide +kernel)) (xo_0 dX11_hand_149 rfl trivial (xo_0 dX11_hand_150 rfl trivial (xo_1 dX11_hand_151 rfl (xm_fg_of (Or.inl q1975) (by decide) rfl (by decide) rfl rfl (Or.inl rfl) rfl) (xo_0 dX11_hand_154 rfl trivial (xo_0 dX11_hand_155 rfl trivial (xo_0 dX11_hand_156 rfl trivial (xo_0 dX11_hand_157 rfl trivial (xo_0 dX11_hand_158 rfl trivial (xo_c rfl (cv_X11_more hI dX11_hand_159 (Or.inl q2312) (by decide)) (xo_0 dX11_hand_162 rfl trivial (xo_n))))))))))))))
theorem oX11_hand {Iv : xI} (hI : xm_good Iv)  : ∀ q ∈ kX11_hand, xm_okb Iv RX11 cX11_hand false 3 lX11_hand q.2 q.1 := by
  intro q hq
  simp only [List.mem_cons, List.not_mem_nil, or_false] at hq
  rcases hq with rfl | rfl | rfl | rfl | rfl | rfl | rfl | rfl | rfl | rfl | rfl | rfl | rfl | rfl
  · exact oX11_hand_0 hI  
  · exact oX11_hand_18 hI  
  · exact oX11_hand_19 hI  
  · exact oX11_hand_41 hI  
  · exact oX11_hand_42 hI  
  · exact oX11_hand_50 hI  
  · exact oX11_hand_52 hI  
  · exact oX11_hand_88 hI  
  · exact oX11_hand_97 hI  
  · exact oX11_hand_114 hI  
  · exact oX11_hand_130 hI  
  · exact oX11_hand_131 hI  
  · exact oX11_hand_132 hI  
  · exact oX11_hand_142 hI  
def S_X11_hand : xS := tU fun as I Q => ∃ a b, as = [.ref 0, .int a, .int b] ∧ t_good I ∧ t_P Q (q_hand (tG I) a b)
theorem body_X11_hand : xm_Body 3 0 0 0 [] lX11_hand kX11_hand S_X11_hand := by
  intro X avs w Q QX hX0 hS
  have hG := xm_go [] hX0
  have hX := xm_go [] hX0
  clear hX0
  obtain ⟨I, rfl, a, b, rfl, hg, hQ⟩ := hS
  refine ⟨rfl, ?_⟩
  repeat' (first
    | ((with_reducible refine @And.intro (vp_in _ _) _ ?_ ?_); (· (first | with_reducible assumption | ((with_reducible refine t_vin ?_); decide) | ((with_reducible refine vp_in_nI ?_ ?_) <;> first | omega | decide) | (simp (disch := omega) only [xl_n, xl_m, nI_dec, nI_sb, nI_add, pk_mul]; (with_reducible refine vp_in_nI ?_ ?_) <;> first | omega | decide))); (conv => whnf))
    | (refine And.intro (by first | with_reducible assumption | exact (show tL _ = _ from rfl) | decide) ?_; (conv => whnf))
    | ((with_reducible refine @And.intro (_ = _) _ ?_ ?_); (· rfl); (conv => whnf))
    | ((with_reducible refine @And.intro (@LE.le Nat _ _ _) _ ?_ ?_); (· (first | exact Nat.zero_le _ | exact Nat.le_of_ble_eq_true rfl | omega)); (conv => whnf))
    | ((with_reducible refine @And.intro (@LT.lt Nat _ _ _) _ ?_ ?_); (· omega); (conv => whnf))
    | ((with_reducible refine @And.intro (∃ _, _ = _) _ ?_ ?_); (· exact ⟨_, rfl⟩); (conv => whnf))
    | ((with_reducible refine @And.intro (_ ∨ _) _ ?_ ?_); (· (first | exact Or.inl rfl | exact Or.inr rfl | exact t_b01 _ | assumption)); (conv => whnf))
    | ((with_reducible refine @And.intro (¬ (_ = _)) _ ?_ ?_); (· first | assumption | (with_reducible assumption)); (conv => whnf))
    | (refine hX _ _ _ _ _ _ ?_; (conv => whnf); fail_if_success show False)
    | fail)
  rw [t_si]
  obtain ⟨J, hJ, hg1, hG1, h01⟩ := t_pub hg
  rw [← hJ]
  rw [← hG1] at hQ
  clear hJ hG1 hg I
  have hg := hg1
  have hok := hg.1
  have hl := hg.2.1
  have h8 := hok.2.2.2.1
  have h9 := hok.2.1
  (conv => whnf)
  rcases t_hc hg a with ⟨h, hh, rfl, e1, f1⟩ | ⟨e1, f1⟩
  · rw [q_hand, f1, g_ck_t] at hQ
    rcases t_rc b 0 5 (L := Int32.ofInt 0) (H := Int32.ofInt 5) (by decide +kernel) (by decide +kernel) (by omega) (by omega) with ⟨n, -, hn, rfl, e2, f2⟩ | ⟨e2, f2⟩
    · rw [f2, g_ck_t, nI_clamp (by omega), nI_clamp (by omega)] at hQ
      have q : n = 0 ∨ n = 1 ∨ n = 2 ∨ n = 3 ∨ n = 4 ∨ n = 5 := by omega
      rcases q with rfl | rfl | rfl | rfl | rfl | rfl
      all_goals
        repeat' (first
          | ((with_reducible refine @And.intro (vp_in _ _) _ ?_ ?_); (· (first | with_reducible assumption | ((with_reducible refine t_vin ?_); decide) | ((with_reducible refine vp_in_nI ?_ ?_) <;> first | omega | decide) | (simp (disch := omega) only [xl_n, xl_m, nI_dec, nI_sb, nI_add, pk_mul]; (with_reducible refine vp_in_nI ?_ ?_) <;> first | omega | decide))); (conv => whnf))
          | (refine And.intro (by first | with_reducible assumption | exact (show tL _ = _ from rfl) | decide) ?_; (conv => whnf))
          | ((with_reducible refine @And.intro (_ = _) _ ?_ ?_); (· rfl); (conv => whnf))
          | ((with_reducible refine @And.intro (@LE.le Nat _ _ _) _ ?_ ?_); (· (first | exact Nat.zero_le _ | exact Nat.le_of_ble_eq_true rfl | omega)); (conv => whnf))
          | ((with_reducible refine @And.intro (@LT.lt Nat _ _ _) _ ?_ ?_); (· omega); (conv => whnf))
          | ((with_reducible refine @And.intro (∃ _, _ = _) _ ?_ ?_); (· exact ⟨_, rfl⟩); (conv => whnf))
          | ((with_reducible refine @And.intro (_ ∨ _) _ ?_ ?_); (· (first | exact Or.inl rfl | exact Or.inr rfl | exact t_b01 _ | assumption)); (conv => whnf))
          | ((with_reducible refine @And.intro (¬ (_ = _)) _ ?_ ?_); (· first | assumption | (with_reducible assumption)); (conv => whnf))
          | (refine hX _ _ _ _ _ _ ?_; (conv => whnf); fail_if_success show False)
          | (rw [t_si]; (conv => whnf))
          | (refine ⟨_, rfl, ?_⟩; (conv => whnf))
          | (refine ⟨_, _, rfl, ?_⟩; (conv => whnf))
          | (refine ⟨_, _, _, rfl, ?_⟩; (conv => whnf))
          | (refine ⟨_, _, _, _, rfl, ?_⟩; (conv => whnf))
          | (rw [e1]; (conv => whnf))
          | (rw [e2]; (conv => whnf))
          | (refine And.intro (fun c => ?_) (fun c => ?_) <;> (first | (exact absurd c (by decide +kernel)) | (conv => whnf)))
          | fail)
        simp (disch := omega) [xm_tsw, xm_tgt, xl_n, nI_eq, nI_toInt]
        repeat' (first
          | ((with_reducible refine @And.intro (vp_in _ _) _ ?_ ?_); (· (first | with_reducible assumption | ((with_reducible refine t_vin ?_); decide) | ((with_reducible refine vp_in_nI ?_ ?_) <;> first | omega | decide) | (simp (disch := omega) only [xl_n, xl_m, nI_dec, nI_sb, nI_add, pk_mul]; (with_reducible refine vp_in_nI ?_ ?_) <;> first | omega | decide))); (conv => whnf))
          | (refine And.intro (by first | with_reducible assumption | exact (show tL _ = _ from rfl) | decide) ?_; (conv => whnf))
          | ((with_reducible refine @And.intro (_ = _) _ ?_ ?_); (· rfl); (conv => whnf))
          | ((with_reducible refine @And.intro (@LE.le Nat _ _ _) _ ?_ ?_); (· (first | exact Nat.zero_le _ | exact Nat.le_of_ble_eq_true rfl | omega)); (conv => whnf))
          | ((with_reducible refine @And.intro (@LT.lt Nat _ _ _) _ ?_ ?_); (· omega); (conv => whnf))
          | ((with_reducible refine @And.intro (∃ _, _ = _) _ ?_ ?_); (· exact ⟨_, rfl⟩); (conv => whnf))
          | ((with_reducible refine @And.intro (_ ∨ _) _ ?_ ?_); (· (first | exact Or.inl rfl | exact Or.inr rfl | exact t_b01 _ | assumption)); (conv => whnf))
          | ((with_reducible refine @And.intro (¬ (_ = _)) _ ?_ ?_); (· first | assumption | (with_reducible assumption)); (conv => whnf))
          | (refine hX _ _ _ _ _ _ ?_; (conv => whnf); fail_if_success show False)
          | (rw [t_si]; (conv => whnf))
          | (refine ⟨_, rfl, ?_⟩; (conv => whnf))
          | (refine ⟨_, _, rfl, ?_⟩; (conv => whnf))
          | (refine ⟨_, _, _, rfl, ?_⟩; (conv => whnf))
          | (refine ⟨_, _, _, _, rfl, ?_⟩; (conv => whnf))
          | (rw [t_l110 (by first | with_reducible assumption | omega | exact vp_lt (by assumption) | (rw [nI_clamp (by omega)]; omega))]; (conv => whnf))
          | (refine And.intro (fun c => ?_) (fun c => ?_) <;> (first | (exact absurd c (by decide +kernel)) | (conv => whnf)))
          | fail)
        all_goals refine t_ask hQ hg t_sp.rf h01 ?_
        all_goals clear hX hG hQ
        all_goals simp (disch := omega) only [xl_n, xl_m, nI_dec, nI_sb, xl_0, xl_1, tW_i, t_bn0, t_bn1, Classical.not_not, t_lt, nI_add, nI_1, pk_mul, nI_clamp, t_si, nI_eq, nI_leI, nM_ne, nM_ne] at *
      · exact (tK_limp hh).symm
      · exact (tK_born hh).symm
      · exact (tK_dies hh).symm
      · rw [g_handv3 (by omega)]
        simp [*]
      · rw [g_handv3 (by omega)]
        simp [*]
      · rw [g_handv3 (by omega)]
        simp [*]
      · rfl
      · show _ = t_more (nI 0) (J 36 106 - gborn (tK J) h)
        rw [tK_born hh]
    · repeat' (first
        | ((with_reducible refine @And.intro (vp_in _ _) _ ?_ ?_); (· (first | with_reducible assumption | ((with_reducible refine t_vin ?_); decide) | ((with_reducible refine vp_in_nI ?_ ?_) <;> first | omega | decide) | (simp (disch := omega) only [xl_n, xl_m, nI_dec, nI_sb, nI_add, pk_mul]; (with_reducible refine vp_in_nI ?_ ?_) <;> first | omega | decide))); (conv => whnf))
        | (refine And.intro (by first | with_reducible assumption | exact (show tL _ = _ from rfl) | decide) ?_; (conv => whnf))
        | ((with_reducible refine @And.intro (_ = _) _ ?_ ?_); (· rfl); (conv => whnf))
        | ((with_reducible refine @And.intro (@LE.le Nat _ _ _) _ ?_ ?_); (· (first | exact Nat.zero_le _ | exact Nat.le_of_ble_eq_true rfl | omega)); (conv => whnf))
        | ((with_reducible refine @And.intro (@LT.lt Nat _ _ _) _ ?_ ?_); (· omega); (conv => whnf))
        | ((with_reducible refine @And.intro (∃ _, _ = _) _ ?_ ?_); (· exact ⟨_, rfl⟩); (conv => whnf))
        | ((with_reducible refine @And.intro (_ ∨ _) _ ?_ ?_); (· (first | exact Or.inl rfl | exact Or.inr rfl | exact t_b01 _ | assumption)); (conv => whnf))
        | ((with_reducible refine @And.intro (¬ (_ = _)) _ ?_ ?_); (· first | assumption | (with_reducible assumption)); (conv => whnf))
        | (refine hX _ _ _ _ _ _ ?_; (conv => whnf); fail_if_success show False)
        | (rw [t_si]; (conv => whnf))
        | (refine ⟨_, rfl, ?_⟩; (conv => whnf))
        | (refine ⟨_, _, rfl, ?_⟩; (conv => whnf))
        | (refine ⟨_, _, _, rfl, ?_⟩; (conv => whnf))
        | (refine ⟨_, _, _, _, rfl, ?_⟩; (conv => whnf))
        | (rw [e1]; (conv => whnf))
        | (rw [e2]; (conv => whnf))
        | (refine And.intro (fun c => ?_) (fun c => ?_) <;> (first | (exact absurd c (by decide +kernel)) | (conv => whnf)))
        | fail)
      exact t_ref' hQ hg h01 (by simp [f2]) (by decide) rfl rfl
  · rw [q_hand] at hQ
    repeat' (first
      | ((with_reducible refine @And.intro (vp_in _ _) _ ?_ ?_); (· (first | with_reducible assumption | ((with_reducible refine t_vin ?_); decide) | ((with_reducible refine vp_in_nI ?_ ?_) <;> first | omega | decide) | (simp (disch := omega) only [xl_n, xl_m, nI_dec, nI_sb, nI_add, pk_mul]; (with_reducible refine vp_in_nI ?_ ?_) <;> first | omega | decide))); (conv => whnf))
      | (refine And.intro (by first | with_reducible assumption | exact (show tL _ = _ from rfl) | decide) ?_; (conv => whnf))
      | ((with_reducible refine @And.intro (_ = _) _ ?_ ?_); (· rfl); (conv => whnf))
      | ((with_reducible refine @And.intro (@LE.le Nat _ _ _) _ ?_ ?_); (· (first | exact Nat.zero_le _ | exact Nat.le_of_ble_eq_true rfl | omega)); (conv => whnf))
      | ((with_reducible refine @And.intro (@LT.lt Nat _ _ _) _ ?_ ?_); (· omega); (conv => whnf))
      | ((with_reducible refine @And.intro (∃ _, _ = _) _ ?_ ?_); (· exact ⟨_, rfl⟩); (conv => whnf))
      | ((with_reducible refine @And.intro (_ ∨ _) _ ?_ ?_); (· (first | exact Or.inl rfl | exact Or.inr rfl | exact t_b01 _ | assumption)); (conv => whnf))
      | ((with_reducible refine @And.intro (¬ (_ = _)) _ ?_ ?_); (· first | assumption | (with_reducible assumption)); (conv => whnf))
      | (refine hX _ _ _ _ _ _ ?_; (conv => whnf); fail_if_success show False)
      | (rw [t_si]; (conv => whnf))
      | (refine ⟨_, rfl, ?_⟩; (conv => whnf))
      | (refine ⟨_, _, rfl, ?_⟩; (conv => whnf))
      | (refine ⟨_, _, _, rfl, ?_⟩; (conv => whnf))
      | (refine ⟨_, _, _, _, rfl, ?_⟩; (conv => whnf))
      | (rw [e1]; (conv => whnf))
      | (refine And.intro (fun c => ?_) (fun c => ?_) <;> (first | (exact absurd c (by decide +kernel)) | (conv => whnf)))
      | fail)
    exact t_ref' hQ hg h01 (by simp [f1]) (by decide) rfl rfl
theorem ct_X11_hand {Iv : xI} (hI : xm_good Iv) : xm_Ct Iv yX11_hand (ws_ yX11_hand cX11_hand 3 (some .int)) 3 0 0 S_X11_hand := xm_enter (rt := 0) (init := false) (by decide +kernel) rfl (fun h => by cases h) (Or.inl ⟨rfl, rfl⟩) (oX11_hand hI) body_X11_hand
theorem cv_X11_hand {Iv : xI} {own : String} {cc : ByteArray} {fr pc idx : Nat} (hI : xm_good Iv) (hdg : decode cc pc = .ok (.invokevirtual idx, 3)) (hl : xm_ml own idx yX11_hand) (hfr : 3 < fr) : xm_CallOK Iv own cc fr pc (pc + 3) 3 0 0 (xm_this 8 S_X11_hand) := xm_callV 8 hI (ct_X11_hand hI) hdg hl q2301 q2302 q145 q2303 rfl rfl (by decide +kernel) hfr (by decide)
def g_pupv (G : gG) (p k : Nat) : Int32 := match k with
  | 0 => gfall (gGK G) p
  | 1 => gneeds (gGK G) p
  | 2 => gs (gnow G) p
  | 3 => gw (gnow G) p
  | 4 => g_lack (gGK G) (gnow G) p
  | _ => gl (gnow G) p
def q_puppet (G : gG) (a b : Int32) : gR := g_ck G (g_isP G a) (nI 1) 0 (g_ck G (t_in b (nI 0) (nI 5)) (nI 2) 1 (g_says G (g_pupv G a.toNatClampNeg b.toNatClampNeg)))
abbrev bX11_puppet_0 : List xE := [(.aload_n 0, 1, 0, 0, 0), (.iconst 0, 2, 0, 0, 0), (.putfield 134, 5, 8, 0, 0), (.aload_n 0, 6, 0, 0, 0), (.aload_n 0, 7, 0, 0, 0), (.iload_n 1, 8, 0, 0, 0), (.invokevirtual 338, 11, 0, 0, 9), (.ifCond .ne 7, 14, 0, 18, 0), (.iconst 1, 15, 0, 0, 0), (.goto 4, 18, 0, 19, 0)]
abbrev bX11_puppet_18 : List xE := [(.iconst 0, 19, 0, 0, 0)]
abbrev bX11_puppet_19 : List xE := [(.iconst 1, 20, 0, 0, 0), (.iconst 0, 21, 0, 0, 0), (.invokevirtual 249, 24, 0, 1, 9), (.ifCond .ne 26, 27, 0, 50, 0), (.aload_n 0, 28, 0, 0, 0), (.iload_n 2, 29, 0, 0, 0), (.iconst 0, 30, 0, 0, 0), (.iconst 5, 31, 0, 0, 0), (.invokestatic 168, 34, 0, 2, 9), (.ifCond .ne 7, 37, 0, 41, 0), (.iconst 1, 38, 0, 0, 0), (.goto 4, 41, 0, 42, 0)]
abbrev bX11_puppet_41 : List xE := [(.iconst 0, 42, 0, 0, 0)]
abbrev bX11_puppet_42 : List xE := [(.iconst 2, 43, 0, 0, 0), (.iconst 1, 44, 0, 0, 0), (.invokevirtual 249, 47, 0, 1, 9), (.ifCond .eq 5, 50, 0, 52, 0)]
abbrev bX11_puppet_50 : List xE := [(.iconst 0, 51, 0, 0, 0), (.ireturn, 52, 0, 0, 0)]
abbrev bX11_puppet_52 : List xE := [(.iload_n 2, 53, 0, 0, 0), (.tableswitch 73 0 4 #[35, 35, 44, 54, 63], 88, 0, 0, 0)]
abbrev bX11_puppet_88 : List xE := [(.aload_n 0, 89, 0, 0, 0), (.getfield 55, 92, 8, 22, 1), (.iload_n 1, 93, 0, 0, 0), (.aaload, 94, 0, 0, 0), (.iload_n 2, 95, 0, 0, 0), (.iaload, 96, 0, 0, 0), (.ireturn, 97, 0, 0, 0)]
abbrev bX11_puppet_97 : List xE := [(.aload_n 0, 98, 0, 0, 0), (.getfield 91, 101, 8, 36, 1), (.bipush 9, 103, 0, 0, 0), (.iload_n 1, 104, 0, 0, 0), (.iadd, 105, 0, 0, 0), (.iaload, 106, 0, 0, 0), (.ireturn, 107, 0, 0, 0)]
abbrev bX11_puppet_107 : List xE := [(.aload_n 0, 108, 0, 0, 0), (.getfield 91, 111, 8, 36, 1), (.iconst 1, 112, 0, 0, 0), (.iload_n 1, 113, 0, 0, 0), (.iadd, 114, 0, 0, 0), (.iaload, 115, 0, 0, 0), (.ireturn, 116, 0, 0, 0)]
abbrev bX11_puppet_116 : List xE := [(.aload_n 0, 117, 0, 0, 0), (.aload_n 0, 118, 0, 0, 0), (.getfield 91, 121, 8, 36, 1), (.iload_n 1, 122, 0, 0, 0), (.invokevirtual 341, 125, 0, 3, 9), (.ireturn, 126, 0, 0, 0)]
abbrev bX11_puppet_126 : List xE := [(.aload_n 0, 127, 0, 0, 0), (.getfield 91, 130, 8, 36, 1), (.bipush 17, 132, 0, 0, 0), (.iload_n 1, 133, 0, 0, 0), (.iadd, 134, 0, 0, 0), (.iaload, 135, 0, 0, 0), (.ireturn, 136, 0, 0, 0)]
abbrev kX11_puppet : List (Nat × List xE) := [(0, bX11_puppet_0), (18, bX11_puppet_18), (19, bX11_puppet_19), (41, bX11_puppet_41), (42, bX11_puppet_42), (50, bX11_puppet_50), (52, bX11_puppet_52), (88, bX11_puppet_88), (97, bX11_puppet_97), (107, bX11_puppet_107), (116, bX11_puppet_116), (126, bX11_puppet_126)]
abbrev lX11_puppet : List (Nat × Nat × Nat × xS) := [(2, 0, 0, xm_this 8 S_X11_isPuppet), (4, 0, 0, xm_this 8 S_X11_bad), (3, 0, 0, S_X11_in), (3, 0, 0, xm_this 8 S_X11_lacksOf)]
theorem oX11_puppet_0 {Iv : xI} (hI : xm_good Iv)  : xm_okb Iv RX11 cX11_puppet false 3 lX11_puppet bX11_puppet_0 0 := xo_0 dX11_puppet_0 rfl trivial (xo_0 dX11_puppet_1 rfl trivial (xo_0 dX11_puppet_2 rfl (xm_fp_of (xm_fg_of (Or.inl q1955) (by decide) rfl (by decide) rfl rfl (Or.inl rfl) rfl) (by decide) rfl (Or.inl ⟨rfl, rfl⟩) rfl) (xo_0 dX11_puppet_5 rfl trivial (xo_0 dX11_puppet_6 rfl trivial (xo_0 dX11_puppet_7 rfl trivial (xo_c rfl (cv_X11_isPuppet hI dX11_puppet_8 (Or.inl q2319) (by decide)) (xo_0 dX11_puppet_11 rfl rfl (xo_0 dX11_puppet_14 rfl trivial (xo_0 dX11_puppet_15 rfl rfl (xo_n))))))))))
theorem oX11_puppet_18 {Iv : xI} (hI : xm_good Iv)  : xm_okb Iv RX11 cX11_puppet false 3 lX11_puppet bX11_puppet_18 18 := xo_0 dX11_puppet_18 rfl trivial (xo_n)
theorem oX11_puppet_19 {Iv : xI} (hI : xm_good Iv)  : xm_okb Iv RX11 cX11_puppet false 3 lX11_puppet bX11_puppet_19 19 := xo_0 dX11_puppet_19 rfl trivial (xo_0 dX11_puppet_20 rfl trivial (xo_c rfl (cv_X11_bad hI dX11_puppet_21 (Or.inl q2137) (by decide)) (xo_0 dX11_puppet_24 rfl rfl (xo_0 dX11_puppet_27 rfl trivial (xo_0 dX11_puppet_28 rfl trivial (xo_0 dX11_puppet_29 rfl trivial (xo_0 dX11_puppet_30 rfl trivial (xo_c rfl (cv_X11_in hI dX11_puppet_31 (Or.inl q1942) (by decide)) (xo_0 dX11_puppet_34 rfl rfl (xo_0 dX11_puppet_37 rfl trivial (xo_0 dX11_puppet_38 rfl rfl (xo_n))))))))))))
theorem oX11_puppet_41 {Iv : xI} (hI : xm_good Iv)  : xm_okb Iv RX11 cX11_puppet false 3 lX11_puppet bX11_puppet_41 41 := xo_0 dX11_puppet_41 rfl trivial (xo_n)
theorem oX11_puppet_42 {Iv : xI} (hI : xm_good Iv)  : xm_okb Iv RX11 cX11_puppet false 3 lX11_puppet bX11_puppet_42 42 := xo_0 dX11_puppet_42 rfl trivial (xo_0 dX11_puppet_43 rfl trivial (xo_c rfl (cv_X11_bad hI dX11_puppet_44 (Or.inl q2137) (by decide)) (xo_0 dX11_puppet_47 rfl rfl (xo_n))))
theorem oX11_puppet_50 {Iv : xI} (hI : xm_good Iv)  : xm_okb Iv RX11 cX11_puppet false 3 lX11_puppet bX11_puppet_50 50 := xo_0 dX11_puppet_50 rfl trivial (xo_0 dX11_puppet_51 rfl trivial (xo_n))
theorem oX11_puppet_52 {Iv : xI} (hI : xm_good Iv)  : xm_okb Iv RX11 cX11_puppet false 3 lX11_puppet bX11_puppet_52 52 := xo_0 dX11_puppet_52 rfl trivial (xo_s dX11_puppet_53 rfl (xo_tableswitch (by decide +kernel)) (xo_n))
theorem oX11_puppet_88 {Iv : xI} (hI : xm_good Iv)  : xm_okb Iv RX11 cX11_puppet false 3 lX11_puppet bX11_puppet_88 88 := xo_0 dX11_puppet_88 rfl trivial (xo_1 dX11_puppet_89 rfl (xm_fg_of (Or.inl q1977) (by decide) rfl (by decide) rfl rfl (Or.inl rfl) rfl) (xo_0 dX11_puppet_92 rfl trivial (xo_0 dX11_puppet_93 rfl trivial (xo_0 dX11_puppet_94 rfl trivial (xo_0 dX11_puppet_95 rfl trivial (xo_0 dX11_puppet_96 rfl trivial (xo_n)))))))
theorem oX11_puppet_97 {Iv : xI} (hI : xm_good Iv)  : xm_okb Iv RX11 cX11_puppet false 3 lX11_puppet bX11_puppet_97 97 := xo_0 dX11_puppet_97 rfl trivial (xo_1 dX11_puppet_98 rfl (xm_fg_of (Or.inl q1991) (by decide) rfl (by decide) rfl rfl (Or.inl rfl) rfl) (xo_0 dX11_puppet_101 rfl (xo_bipush (by decide +kernel)) (xo_0 dX11_puppet_103 rfl trivial (xo_0 dX11_puppet_104 rfl trivial (xo_0 dX11_puppet_105 rfl trivial (xo_0 dX11_puppet_106 rfl trivial (xo_n)))))))
theorem oX11_puppet_107 {Iv : xI} (hI : xm_good Iv)  : xm_okb Iv RX11 cX11_puppet false 3 lX11_puppet bX11_puppet_107 107 := xo_0 dX11_puppet_107 rfl trivial (xo_1 dX11_puppet_108 rfl (xm_fg_of (Or.inl q1991) (by decide) rfl (by decide) rfl rfl (Or.inl rfl) rfl) (xo_0 dX11_puppet_111 rfl trivial (xo_0 dX11_puppet_112 rfl trivial (xo_0 dX11_puppet_113 rfl trivial (xo_0 dX11_puppet_114 rfl trivial (xo_0 dX11_puppet_115 rfl trivial (xo_n)))))))
theorem oX11_puppet_116 {Iv : xI} (hI : xm_good Iv)  : xm_okb Iv RX11 cX11_puppet false 3 lX11_puppet bX11_puppet_116 116 := xo_0 dX11_puppet_116 rfl trivial (xo_0 dX11_puppet_117 rfl trivial (xo_1 dX11_puppet_118 rfl (xm_fg_of (Or.inl q1991) (by decide) rfl (by decide) rfl rfl (Or.inl rfl) rfl) (xo_0 dX11_puppet_121 rfl trivial (xo_c rfl (cv_X11_lacksOf hI dX11_puppet_122 (Or.inl q2323) (by decide)) (xo_0 dX11_puppet_125 rfl trivial (xo_n))))))
theorem oX11_puppet_126 {Iv : xI} (hI : xm_good Iv)  : xm_okb Iv RX11 cX11_puppet false 3 lX11_puppet bX11_puppet_126 126 := xo_0 dX11_puppet_126 rfl trivial (xo_1 dX11_puppet_127 rfl (xm_fg_of (Or.inl q1991) (by decide) rfl (by decide) rfl rfl (Or.inl rfl) rfl) (xo_0 dX11_puppet_130 rfl (xo_bipush (by decide +kernel)) (xo_0 dX11_puppet_132 rfl trivial (xo_0 dX11_puppet_133 rfl trivial (xo_0 dX11_puppet_134 rfl trivial (xo_0 dX11_puppet_135 rfl trivial (xo_n)))))))
theorem oX11_puppet {Iv : xI} (hI : xm_good Iv)  : ∀ q ∈ kX11_puppet, xm_okb Iv RX11 cX11_puppet false 3 lX11_puppet q.2 q.1 := by
  intro q hq
  simp only [List.mem_cons, List.not_mem_nil, or_false] at hq
  rcases hq with rfl | rfl | rfl | rfl | rfl | rfl | rfl | rfl | rfl | rfl | rfl | rfl
  · exact oX11_puppet_0 hI  
  · exact oX11_puppet_18 hI  
  · exact oX11_puppet_19 hI  
  · exact oX11_puppet_41 hI  
  · exact oX11_puppet_42 hI  
  · exact oX11_puppet_50 hI  
  · exact oX11_puppet_52 hI  
  · exact oX11_puppet_88 hI  
  · exact oX11_puppet_97 hI  
  · exact oX11_puppet_107 hI  
  · exact oX11_puppet_116 hI  
  · exact oX11_puppet_126 hI  
def S_X11_puppet : xS := tU fun as I Q => ∃ a b, as = [.ref 0, .int a, .int b] ∧ t_good I ∧ t_P Q (q_puppet (tG I) a b)
theorem body_X11_puppet : xm_Body 3 0 0 0 [] lX11_puppet kX11_puppet S_X11_puppet := by
  intro X avs w Q QX hX0 hS
  have hG := xm_go [] hX0
  have hX := xm_go [] hX0
  clear hX0
  obtain ⟨I, rfl, a, b, rfl, hg, hQ⟩ := hS
  refine ⟨rfl, ?_⟩
  repeat' (first
    | ((with_reducible refine @And.intro (vp_in _ _) _ ?_ ?_); (· (first | with_reducible assumption | ((with_reducible refine t_vin ?_); decide) | ((with_reducible refine vp_in_nI ?_ ?_) <;> first | omega | decide) | (simp (disch := omega) only [xl_n, xl_m, nI_dec, nI_sb, nI_add, pk_mul]; (with_reducible refine vp_in_nI ?_ ?_) <;> first | omega | decide))); (conv => whnf))
    | (refine And.intro (by first | with_reducible assumption | exact (show tL _ = _ from rfl) | decide) ?_; (conv => whnf))
    | ((with_reducible refine @And.intro (_ = _) _ ?_ ?_); (· rfl); (conv => whnf))
    | ((with_reducible refine @And.intro (@LE.le Nat _ _ _) _ ?_ ?_); (· (first | exact Nat.zero_le _ | exact Nat.le_of_ble_eq_true rfl | omega)); (conv => whnf))
    | ((with_reducible refine @And.intro (@LT.lt Nat _ _ _) _ ?_ ?_); (· omega); (conv => whnf))
    | ((with_reducible refine @And.intro (∃ _, _ = _) _ ?_ ?_); (· exact ⟨_, rfl⟩); (conv => whnf))
    | ((with_reducible refine @And.intro (_ ∨ _) _ ?_ ?_); (· (first | exact Or.inl rfl | exact Or.inr rfl | exact t_b01 _ | assumption)); (conv => whnf))
    | ((with_reducible refine @And.intro (¬ (_ = _)) _ ?_ ?_); (· first | assumption | (with_reducible assumption)); (conv => whnf))
    | (refine hX _ _ _ _ _ _ ?_; (conv => whnf); fail_if_success show False)
    | fail)
  rw [t_si]
  obtain ⟨J, hJ, hg1, hG1, h01⟩ := t_pub hg
  rw [← hJ]
  rw [← hG1] at hQ
  clear hJ hG1 hg I
  have hg := hg1
  have hok := hg.1
  have hl := hg.2.1
  have h8 := hok.2.2.2.1
  have h9 := hok.2.1
  (conv => whnf)
  rcases t_pc hg a with ⟨p, hp, rfl, e1, f1⟩ | ⟨e1, f1⟩
  · rw [q_puppet, f1, g_ck_t] at hQ
    rcases t_rc b 0 5 (L := Int32.ofInt 0) (H := Int32.ofInt 5) (by decide +kernel) (by decide +kernel) (by omega) (by omega) with ⟨n, -, hn, rfl, e2, f2⟩ | ⟨e2, f2⟩
    · rw [f2, g_ck_t, nI_clamp (by omega), nI_clamp (by omega)] at hQ
      have q : n = 0 ∨ n = 1 ∨ n = 2 ∨ n = 3 ∨ n = 4 ∨ n = 5 := by omega
      rcases q with rfl | rfl | rfl | rfl | rfl | rfl
      all_goals
        repeat' (first
          | ((with_reducible refine @And.intro (vp_in _ _) _ ?_ ?_); (· (first | with_reducible assumption | ((with_reducible refine t_vin ?_); decide) | ((with_reducible refine vp_in_nI ?_ ?_) <;> first | omega | decide) | (simp (disch := omega) only [xl_n, xl_m, nI_dec, nI_sb, nI_add, pk_mul]; (with_reducible refine vp_in_nI ?_ ?_) <;> first | omega | decide))); (conv => whnf))
          | (refine And.intro (by first | with_reducible assumption | exact (show tL _ = _ from rfl) | decide) ?_; (conv => whnf))
          | ((with_reducible refine @And.intro (_ = _) _ ?_ ?_); (· rfl); (conv => whnf))
          | ((with_reducible refine @And.intro (@LE.le Nat _ _ _) _ ?_ ?_); (· (first | exact Nat.zero_le _ | exact Nat.le_of_ble_eq_true rfl | omega)); (conv => whnf))
          | ((with_reducible refine @And.intro (@LT.lt Nat _ _ _) _ ?_ ?_); (· omega); (conv => whnf))
          | ((with_reducible refine @And.intro (∃ _, _ = _) _ ?_ ?_); (· exact ⟨_, rfl⟩); (conv => whnf))
          | ((with_reducible refine @And.intro (_ ∨ _) _ ?_ ?_); (· (first | exact Or.inl rfl | exact Or.inr rfl | exact t_b01 _ | assumption)); (conv => whnf))
          | ((with_reducible refine @And.intro (¬ (_ = _)) _ ?_ ?_); (· first | assumption | (with_reducible assumption)); (conv => whnf))
          | (refine hX _ _ _ _ _ _ ?_; (conv => whnf); fail_if_success show False)
          | (rw [t_si]; (conv => whnf))
          | (refine ⟨_, rfl, ?_⟩; (conv => whnf))
          | (refine ⟨_, _, rfl, ?_⟩; (conv => whnf))
          | (refine ⟨_, _, _, rfl, ?_⟩; (conv => whnf))
          | (refine ⟨_, _, _, _, rfl, ?_⟩; (conv => whnf))
          | (rw [e1]; (conv => whnf))
          | (rw [e2]; (conv => whnf))
          | (refine And.intro (fun c => ?_) (fun c => ?_) <;> (first | (exact absurd c (by decide +kernel)) | (conv => whnf)))
          | fail)
        simp (disch := omega) [xm_tsw, xm_tgt, xl_n, nI_eq, nI_toInt]
        repeat' (first
          | ((with_reducible refine @And.intro (vp_in _ _) _ ?_ ?_); (· (first | with_reducible assumption | ((with_reducible refine t_vin ?_); decide) | ((with_reducible refine vp_in_nI ?_ ?_) <;> first | omega | decide) | (simp (disch := omega) only [xl_n, xl_m, nI_dec, nI_sb, nI_add, pk_mul]; (with_reducible refine vp_in_nI ?_ ?_) <;> first | omega | decide))); (conv => whnf))
          | (refine And.intro (by first | with_reducible assumption | exact (show tL _ = _ from rfl) | decide) ?_; (conv => whnf))
          | ((with_reducible refine @And.intro (_ = _) _ ?_ ?_); (· rfl); (conv => whnf))
          | ((with_reducible refine @And.intro (@LE.le Nat _ _ _) _ ?_ ?_); (· (first | exact Nat.zero_le _ | exact Nat.le_of_ble_eq_true rfl | omega)); (conv => whnf))
          | ((with_reducible refine @And.intro (@LT.lt Nat _ _ _) _ ?_ ?_); (· omega); (conv => whnf))
          | ((with_reducible refine @And.intro (∃ _, _ = _) _ ?_ ?_); (· exact ⟨_, rfl⟩); (conv => whnf))
          | ((with_reducible refine @And.intro (_ ∨ _) _ ?_ ?_); (· (first | exact Or.inl rfl | exact Or.inr rfl | exact t_b01 _ | assumption)); (conv => whnf))
          | ((with_reducible refine @And.intro (¬ (_ = _)) _ ?_ ?_); (· first | assumption | (with_reducible assumption)); (conv => whnf))
          | (refine hX _ _ _ _ _ _ ?_; (conv => whnf); fail_if_success show False)
          | (rw [t_si]; (conv => whnf))
          | (refine ⟨_, rfl, ?_⟩; (conv => whnf))
          | (refine ⟨_, _, rfl, ?_⟩; (conv => whnf))
          | (refine ⟨_, _, _, rfl, ?_⟩; (conv => whnf))
          | (refine ⟨_, _, _, _, rfl, ?_⟩; (conv => whnf))
          | (rw [t_l130 (by first | with_reducible assumption | omega | exact vp_lt (by assumption) | (rw [nI_clamp (by omega)]; omega))]; (conv => whnf))
          | (refine And.intro (fun c => ?_) (fun c => ?_) <;> (first | (exact absurd c (by decide +kernel)) | (conv => whnf)))
          | fail)
        all_goals refine t_ask hQ hg t_sp.rf h01 ?_
        all_goals clear hX hG hQ
        all_goals simp (disch := omega) only [xl_n, xl_m, nI_dec, nI_sb, xl_0, xl_1, tW_i, t_bn0, t_bn1, Classical.not_not, t_lt, nI_add, nI_1, pk_mul, nI_clamp, t_si, nI_eq, nI_leI, nM_ne, nM_ne] at *
      · exact (tK_fall hp).symm
      · exact (tK_needs hp).symm
      · exact (tA_gs (by omega)).symm
      · exact (tA_gw (by omega)).symm
      · rfl
      · exact (tA_gl (by omega)).symm
    · repeat' (first
        | ((with_reducible refine @And.intro (vp_in _ _) _ ?_ ?_); (· (first | with_reducible assumption | ((with_reducible refine t_vin ?_); decide) | ((with_reducible refine vp_in_nI ?_ ?_) <;> first | omega | decide) | (simp (disch := omega) only [xl_n, xl_m, nI_dec, nI_sb, nI_add, pk_mul]; (with_reducible refine vp_in_nI ?_ ?_) <;> first | omega | decide))); (conv => whnf))
        | (refine And.intro (by first | with_reducible assumption | exact (show tL _ = _ from rfl) | decide) ?_; (conv => whnf))
        | ((with_reducible refine @And.intro (_ = _) _ ?_ ?_); (· rfl); (conv => whnf))
        | ((with_reducible refine @And.intro (@LE.le Nat _ _ _) _ ?_ ?_); (· (first | exact Nat.zero_le _ | exact Nat.le_of_ble_eq_true rfl | omega)); (conv => whnf))
        | ((with_reducible refine @And.intro (@LT.lt Nat _ _ _) _ ?_ ?_); (· omega); (conv => whnf))
        | ((with_reducible refine @And.intro (∃ _, _ = _) _ ?_ ?_); (· exact ⟨_, rfl⟩); (conv => whnf))
        | ((with_reducible refine @And.intro (_ ∨ _) _ ?_ ?_); (· (first | exact Or.inl rfl | exact Or.inr rfl | exact t_b01 _ | assumption)); (conv => whnf))
        | ((with_reducible refine @And.intro (¬ (_ = _)) _ ?_ ?_); (· first | assumption | (with_reducible assumption)); (conv => whnf))
        | (refine hX _ _ _ _ _ _ ?_; (conv => whnf); fail_if_success show False)
        | (rw [t_si]; (conv => whnf))
        | (refine ⟨_, rfl, ?_⟩; (conv => whnf))
        | (refine ⟨_, _, rfl, ?_⟩; (conv => whnf))
        | (refine ⟨_, _, _, rfl, ?_⟩; (conv => whnf))
        | (refine ⟨_, _, _, _, rfl, ?_⟩; (conv => whnf))
        | (rw [e1]; (conv => whnf))
        | (rw [e2]; (conv => whnf))
        | (refine And.intro (fun c => ?_) (fun c => ?_) <;> (first | (exact absurd c (by decide +kernel)) | (conv => whnf)))
        | fail)
      exact t_ref' hQ hg h01 (by simp [f2]) (by decide) rfl rfl
  · rw [q_puppet] at hQ
    repeat' (first
      | ((with_reducible refine @And.intro (vp_in _ _) _ ?_ ?_); (· (first | with_reducible assumption | ((with_reducible refine t_vin ?_); decide) | ((with_reducible refine vp_in_nI ?_ ?_) <;> first | omega | decide) | (simp (disch := omega) only [xl_n, xl_m, nI_dec, nI_sb, nI_add, pk_mul]; (with_reducible refine vp_in_nI ?_ ?_) <;> first | omega | decide))); (conv => whnf))
      | (refine And.intro (by first | with_reducible assumption | exact (show tL _ = _ from rfl) | decide) ?_; (conv => whnf))
      | ((with_reducible refine @And.intro (_ = _) _ ?_ ?_); (· rfl); (conv => whnf))
      | ((with_reducible refine @And.intro (@LE.le Nat _ _ _) _ ?_ ?_); (· (first | exact Nat.zero_le _ | exact Nat.le_of_ble_eq_true rfl | omega)); (conv => whnf))
      | ((with_reducible refine @And.intro (@LT.lt Nat _ _ _) _ ?_ ?_); (· omega); (conv => whnf))
      | ((with_reducible refine @And.intro (∃ _, _ = _) _ ?_ ?_); (· exact ⟨_, rfl⟩); (conv => whnf))
      | ((with_reducible refine @And.intro (_ ∨ _) _ ?_ ?_); (· (first | exact Or.inl rfl | exact Or.inr rfl | exact t_b01 _ | assumption)); (conv => whnf))
      | ((with_reducible refine @And.intro (¬ (_ = _)) _ ?_ ?_); (· first | assumption | (with_reducible assumption)); (conv => whnf))
      | (refine hX _ _ _ _ _ _ ?_; (conv => whnf); fail_if_success show False)
      | (rw [t_si]; (conv => whnf))
      | (refine ⟨_, rfl, ?_⟩; (conv => whnf))
      | (refine ⟨_, _, rfl, ?_⟩; (conv => whnf))
      | (refine ⟨_, _, _, rfl, ?_⟩; (conv => whnf))
      | (refine ⟨_, _, _, _, rfl, ?_⟩; (conv => whnf))
      | (rw [e1]; (conv => whnf))
      | (refine And.intro (fun c => ?_) (fun c => ?_) <;> (first | (exact absurd c (by decide +kernel)) | (conv => whnf)))
      | fail)
    exact t_ref' hQ hg h01 (by simp [f1]) (by decide) rfl rfl
theorem ct_X11_puppet {Iv : xI} (hI : xm_good Iv) : xm_Ct Iv yX11_puppet (ws_ yX11_puppet cX11_puppet 3 (some .int)) 3 0 0 S_X11_puppet := xm_enter (rt := 0) (init := false) (by decide +kernel) rfl (fun h => by cases h) (Or.inl ⟨rfl, rfl⟩) (oX11_puppet hI) body_X11_puppet
theorem cv_X11_puppet {Iv : xI} {own : String} {cc : ByteArray} {fr pc idx : Nat} (hI : xm_good Iv) (hdg : decode cc pc = .ok (.invokevirtual idx, 3)) (hl : xm_ml own idx yX11_puppet) (hfr : 3 < fr) : xm_CallOK Iv own cc fr pc (pc + 3) 3 0 0 (xm_this 8 S_X11_puppet) := xm_callV 8 hI (ct_X11_puppet hI) hdg hl q2316 q2317 q145 q2318 rfl rfl (by decide +kernel) hfr (by decide)
def q_fault (G : gG) : gR := g_says G (gplace G)
abbrev bX11_fault_0 : List xE := [(.aload_n 0, 1, 0, 0, 0), (.iconst 0, 2, 0, 0, 0), (.putfield 134, 5, 8, 0, 0), (.aload_n 0, 6, 0, 0, 0), (.getfield 9, 9, 8, 3, 0), (.ireturn, 10, 0, 0, 0)]
abbrev kX11_fault : List (Nat × List xE) := [(0, bX11_fault_0)]
abbrev lX11_fault : List (Nat × Nat × Nat × xS) := []
theorem oX11_fault_0 {Iv : xI} (hI : xm_good Iv)  : xm_okb Iv RX11 cX11_fault false 1 lX11_fault bX11_fault_0 0 := xo_0 dX11_fault_0 rfl trivial (xo_0 dX11_fault_1 rfl trivial (xo_0 dX11_fault_2 rfl (xm_fp_of (xm_fg_of (Or.inl q1955) (by decide) rfl (by decide) rfl rfl (Or.inl rfl) rfl) (by decide) rfl (Or.inl ⟨rfl, rfl⟩) rfl) (xo_0 dX11_fault_5 rfl trivial (xo_0 dX11_fault_6 rfl (xm_fg_of (Or.inl q1958) (by decide) rfl (by decide) rfl rfl (Or.inl rfl) rfl) (xo_0 dX11_fault_9 rfl trivial (xo_n))))))
theorem oX11_fault {Iv : xI} (hI : xm_good Iv)  : ∀ q ∈ kX11_fault, xm_okb Iv RX11 cX11_fault false 1 lX11_fault q.2 q.1 := by
  intro q hq
  simp only [List.mem_cons, List.not_mem_nil, or_false] at hq
  subst hq
  exact oX11_fault_0 hI  
def S_X11_fault : xS := tU fun as I Q => as = [.ref 0] ∧ t_good I ∧ t_P Q (q_fault (tG I))
theorem body_X11_fault : xm_Body 1 0 0 0 [] lX11_fault kX11_fault S_X11_fault := by
  intro X avs w Q QX hX0 hS
  have hG := xm_go [] hX0
  have hX := xm_go [] hX0
  clear hX0
  obtain ⟨I, rfl, rfl, hg, hQ⟩ := hS
  refine ⟨rfl, ?_⟩
  repeat' (first
    | ((with_reducible refine @And.intro (vp_in _ _) _ ?_ ?_); (· (first | with_reducible assumption | ((with_reducible refine t_vin ?_); decide) | ((with_reducible refine vp_in_nI ?_ ?_) <;> first | omega | decide) | (simp (disch := omega) only [xl_n, xl_m, nI_dec, nI_sb, nI_add, pk_mul]; (with_reducible refine vp_in_nI ?_ ?_) <;> first | omega | decide))); (conv => whnf))
    | (refine And.intro (by first | with_reducible assumption | exact (show tL _ = _ from rfl) | decide) ?_; (conv => whnf))
    | ((with_reducible refine @And.intro (_ = _) _ ?_ ?_); (· rfl); (conv => whnf))
    | ((with_reducible refine @And.intro (@LE.le Nat _ _ _) _ ?_ ?_); (· (first | exact Nat.zero_le _ | exact Nat.le_of_ble_eq_true rfl | omega)); (conv => whnf))
    | ((with_reducible refine @And.intro (@LT.lt Nat _ _ _) _ ?_ ?_); (· omega); (conv => whnf))
    | ((with_reducible refine @And.intro (∃ _, _ = _) _ ?_ ?_); (· exact ⟨_, rfl⟩); (conv => whnf))
    | ((with_reducible refine @And.intro (_ ∨ _) _ ?_ ?_); (· (first | exact Or.inl rfl | exact Or.inr rfl | exact t_b01 _ | assumption)); (conv => whnf))
    | ((with_reducible refine @And.intro (¬ (_ = _)) _ ?_ ?_); (· first | assumption | (with_reducible assumption)); (conv => whnf))
    | (refine hX _ _ _ _ _ _ ?_; (conv => whnf); fail_if_success show False)
    | fail)
  rw [t_si]
  obtain ⟨J, hJ, hg1, hG1, h01⟩ := t_pub hg
  rw [← hJ]
  rw [← hG1] at hQ
  clear hJ hG1 hg I
  have hg := hg1
  have hok := hg.1
  have hl := hg.2.1
  have h8 := hok.2.2.2.1
  have h9 := hok.2.1
  (conv => whnf)
  exact t_ask hQ hg t_sp.rf h01 rfl
theorem ct_X11_fault {Iv : xI} (hI : xm_good Iv) : xm_Ct Iv yX11_fault (ws_ yX11_fault cX11_fault 1 (some .int)) 1 0 0 S_X11_fault := xm_enter (rt := 0) (init := false) (by decide +kernel) rfl (fun h => by cases h) (Or.inl ⟨rfl, rfl⟩) (oX11_fault hI) body_X11_fault
theorem cv_X11_fault {Iv : xI} {own : String} {cc : ByteArray} {fr pc idx : Nat} (hI : xm_good Iv) (hdg : decode cc pc = .ok (.invokevirtual idx, 3)) (hl : xm_ml own idx yX11_fault) (hfr : 1 < fr) : xm_CallOK Iv own cc fr pc (pc + 3) 1 0 0 (xm_this 8 S_X11_fault) := xm_callV 8 hI (ct_X11_fault hI) hdg hl q2281 q2282 q145 q2283 rfl rfl (by decide +kernel) hfr (by decide)
