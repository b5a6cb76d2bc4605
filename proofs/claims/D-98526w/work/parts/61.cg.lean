/-! ===== the reference: reach, both, played, cost ===== -/
set_option maxRecDepth 100000
/-- which puppets of the act a the hand h works in some cast -/
def g_reachN (G : gG) (h a n : Nat) (b : Int32) : Int32 := t_fold n (fun i b => b ||| (if t_has (g_reach (g_nowc G a) i) h = true then t_bit (gpup G a i) else nI 0)) b
def g_reachA (G : gG) (h n : Nat) : Int32 := t_fold n (fun a b => g_reachN G h a (gmany G a) b) (nI 0)
theorem g_reachN_s {G : gG} {h a n : Nat} {b : Int32} : g_reachN G h a (n + 1) b = g_reachN G h a n b ||| (if t_has (g_reach (g_nowc G a) n) h = true then t_bit (gpup G a n) else nI 0) := rfl
theorem g_reachA_s {G : gG} {h n : Nat} : g_reachA G h (n + 1) = g_reachN G h n (gmany G n) (g_reachA G h n) := rfl
def q_reach (G : gG) (a : Int32) : gR := g_ck G (g_isH G a) (nI 1) 0 (g_says G (g_reachA G a.toNatClampNeg (gacts G)))
abbrev bX11_reach_0 : List xE := [(.aload_n 0, 1, 0, 0, 0), (.iconst 0, 2, 0, 0, 0), (.putfield 134, 5, 8, 0, 0), (.aload_n 0, 6, 0, 0, 0), (.aload_n 0, 7, 0, 0, 0), (.iload_n 1, 8, 0, 0, 0), (.invokevirtual 331, 11, 0, 0, 9), (.ifCond .ne 7, 14, 0, 18, 0), (.iconst 1, 15, 0, 0, 0), (.goto 4, 18, 0, 19, 0)]
abbrev bX11_reach_18 : List xE := [(.iconst 0, 19, 0, 0, 0)]
abbrev bX11_reach_19 : List xE := [(.iconst 1, 20, 0, 0, 0), (.iconst 0, 21, 0, 0, 0), (.invokevirtual 249, 24, 0, 1, 9), (.ifCond .eq 5, 27, 0, 29, 0), (.iconst 0, 28, 0, 0, 0), (.ireturn, 29, 0, 0, 0)]
abbrev bX11_reach_29 : List xE := [(.iconst 0, 30, 0, 0, 0), (.istore_n 2, 31, 0, 0, 0), (.iconst 0, 32, 0, 0, 0), (.istore_n 3, 33, 0, 0, 0)]
abbrev bX11_reach_33 : List xE := [(.iload_n 3, 34, 0, 0, 0), (.aload_n 0, 35, 0, 0, 0), (.getfield 23, 38, 8, 12, 1), (.iconst 2, 39, 0, 0, 0), (.iaload, 40, 0, 0, 0), (.if_icmp .ge 63, 43, 0, 103, 0), (.aload_n 0, 44, 0, 0, 0), (.iload_n 3, 45, 0, 0, 0), (.invokevirtual 415, 48, 0, 2, 9), (.pop, 49, 0, 0, 0), (.iconst 0, 50, 0, 0, 0), (.istore 4, 52, 0, 0, 0)]
abbrev bX11_reach_52 : List xE := [(.iload 4, 54, 0, 0, 0), (.aload_n 0, 55, 0, 0, 0), (.getfield 391, 58, 8, 51, 0), (.if_icmp .ge 39, 61, 0, 97, 0), (.iload_n 2, 62, 0, 0, 0), (.aload_n 0, 63, 0, 0, 0), (.getfield 118, 66, 8, 50, 1), (.iload 4, 68, 0, 0, 0), (.iaload, 69, 0, 0, 0), (.iload_n 1, 70, 0, 0, 0), (.invokestatic 242, 73, 0, 3, 9), (.ifCond .eq 15, 76, 0, 88, 0), (.iconst 1, 77, 0, 0, 0), (.aload_n 0, 78, 0, 0, 0), (.getfield 106, 81, 8, 46, 1), (.iload 4, 83, 0, 0, 0), (.iaload, 84, 0, 0, 0), (.ishl, 85, 0, 0, 0), (.goto 4, 88, 0, 89, 0)]
abbrev bX11_reach_88 : List xE := [(.iconst 0, 89, 0, 0, 0)]
abbrev bX11_reach_89 : List xE := [(.ior, 90, 0, 0, 0), (.istore_n 2, 91, 0, 0, 0), (.iinc 4 1, 94, 0, 0, 0), (.goto (-42), 97, 0, 52, 0)]
abbrev bX11_reach_97 : List xE := [(.iinc 3 1, 100, 0, 0, 0), (.goto (-67), 103, 0, 33, 0)]
abbrev bX11_reach_103 : List xE := [(.iload_n 2, 104, 0, 0, 0), (.ireturn, 105, 0, 0, 0)]
abbrev kX11_reach : List (Nat × List xE) := [(0, bX11_reach_0), (18, bX11_reach_18), (19, bX11_reach_19), (29, bX11_reach_29), (33, bX11_reach_33), (52, bX11_reach_52), (88, bX11_reach_88), (89, bX11_reach_89), (97, bX11_reach_97), (103, bX11_reach_103)]
abbrev lX11_reach : List (Nat × Nat × Nat × xS) := [(2, 0, 0, xm_this 8 S_X11_isHand), (4, 0, 0, xm_this 8 S_X11_bad), (2, 0, 0, xm_this 8 S_X11_castsOf), (2, 0, 0, S_X11_has)]
theorem oX11_reach_0 {Iv : xI} (hI : xm_good Iv)  : xm_okb Iv RX11 cX11_reach false 25 lX11_reach bX11_reach_0 0 := xo_0 dX11_reach_0 rfl trivial (xo_0 dX11_reach_1 rfl trivial (xo_0 dX11_reach_2 rfl (xm_fp_of (xm_fg_of (Or.inl q1955) (by decide) rfl (by decide) rfl rfl (Or.inl rfl) rfl) (by decide) rfl (Or.inl ⟨rfl, rfl⟩) rfl) (xo_0 dX11_reach_5 rfl trivial (xo_0 dX11_reach_6 rfl trivial (xo_0 dX11_reach_7 rfl trivial (xo_c rfl (cv_X11_isHand hI dX11_reach_8 (Or.inl q2304) (by decide)) (xo_0 dX11_reach_11 rfl rfl (xo_0 dX11_reach_14 rfl trivial (xo_0 dX11_reach_15 rfl rfl (xo_n))))))))))
theorem oX11_reach_18 {Iv : xI} (hI : xm_good Iv)  : xm_okb Iv RX11 cX11_reach false 25 lX11_reach bX11_reach_18 18 := xo_0 dX11_reach_18 rfl trivial (xo_n)
theorem oX11_reach_19 {Iv : xI} (hI : xm_good Iv)  : xm_okb Iv RX11 cX11_reach false 25 lX11_reach bX11_reach_19 19 := xo_0 dX11_reach_19 rfl trivial (xo_0 dX11_reach_20 rfl trivial (xo_c rfl (cv_X11_bad hI dX11_reach_21 (Or.inl q2137) (by decide)) (xo_0 dX11_reach_24 rfl rfl (xo_0 dX11_reach_27 rfl trivial (xo_0 dX11_reach_28 rfl trivial (xo_n))))))
theorem oX11_reach_29 {Iv : xI} (hI : xm_good Iv)  : xm_okb Iv RX11 cX11_reach false 25 lX11_reach bX11_reach_29 29 := xo_0 dX11_reach_29 rfl trivial (xo_0 dX11_reach_30 rfl trivial (xo_0 dX11_reach_31 rfl trivial (xo_0 dX11_reach_32 rfl trivial (xo_n))))
theorem oX11_reach_33 {Iv : xI} (hI : xm_good Iv)  : xm_okb Iv RX11 cX11_reach false 25 lX11_reach bX11_reach_33 33 := xo_0 dX11_reach_33 rfl trivial (xo_0 dX11_reach_34 rfl trivial (xo_1 dX11_reach_35 rfl (xm_fg_of (Or.inl q1967) (by decide) rfl (by decide) rfl rfl (Or.inl rfl) rfl) (xo_0 dX11_reach_38 rfl trivial (xo_0 dX11_reach_39 rfl trivial (xo_0 dX11_reach_40 rfl rfl (xo_0 dX11_reach_43 rfl trivial (xo_0 dX11_reach_44 rfl trivial (xo_c rfl (cv_X11_castsOf hI dX11_reach_45 (Or.inl q2464) (by decide)) (xo_0 dX11_reach_48 rfl trivial (xo_0 dX11_reach_49 rfl trivial (xo_0 dX11_reach_50 rfl trivial (xo_n))))))))))))
theorem oX11_reach_52 {Iv : xI} (hI : xm_good Iv)  : xm_okb Iv RX11 cX11_reach false 25 lX11_reach bX11_reach_52 52 := xo_0 dX11_reach_52 rfl trivial (xo_0 dX11_reach_54 rfl trivial (xo_0 dX11_reach_55 rfl (xm_fg_of (Or.inl q2006) (by decide) rfl (by decide) rfl rfl (Or.inl rfl) rfl) (xo_0 dX11_reach_58 rfl rfl (xo_0 dX11_reach_61 rfl trivial (xo_0 dX11_reach_62 rfl trivial (xo_1 dX11_reach_63 rfl (xm_fg_of (Or.inl q2005) (by decide) rfl (by decide) rfl rfl (Or.inl rfl) rfl) (xo_0 dX11_reach_66 rfl trivial (xo_0 dX11_reach_68 rfl trivial (xo_0 dX11_reach_69 rfl trivial (xo_c rfl (cv_X11_has hI dX11_reach_70 (Or.inl q1945) (by decide)) (xo_0 dX11_reach_73 rfl rfl (xo_0 dX11_reach_76 rfl trivial (xo_0 dX11_reach_77 rfl trivial (xo_1 dX11_reach_78 rfl (xm_fg_of (Or.inl q2001) (by decide) rfl (by decide) rfl rfl (Or.inl rfl) rfl) (xo_0 dX11_reach_81 rfl trivial (xo_0 dX11_reach_83 rfl trivial (xo_0 dX11_reach_84 rfl trivial (xo_0 dX11_reach_85 rfl rfl (xo_n)))))))))))))))))))
theorem oX11_reach_88 {Iv : xI} (hI : xm_good Iv)  : xm_okb Iv RX11 cX11_reach false 25 lX11_reach bX11_reach_88 88 := xo_0 dX11_reach_88 rfl trivial (xo_n)
theorem oX11_reach_89 {Iv : xI} (hI : xm_good Iv)  : xm_okb Iv RX11 cX11_reach false 25 lX11_reach bX11_reach_89 89 := xo_0 dX11_reach_89 rfl trivial (xo_0 dX11_reach_90 rfl trivial (xo_0 dX11_reach_91 rfl trivial (xo_0 dX11_reach_94 rfl rfl (xo_n))))
theorem oX11_reach_97 {Iv : xI} (hI : xm_good Iv)  : xm_okb Iv RX11 cX11_reach false 25 lX11_reach bX11_reach_97 97 := xo_0 dX11_reach_97 rfl trivial (xo_0 dX11_reach_100 rfl rfl (xo_n))
theorem oX11_reach_103 {Iv : xI} (hI : xm_good Iv)  : xm_okb Iv RX11 cX11_reach false 25 lX11_reach bX11_reach_103 103 := xo_0 dX11_reach_103 rfl trivial (xo_0 dX11_reach_104 rfl trivial (xo_n))
theorem oX11_reach {Iv : xI} (hI : xm_good Iv)  : ∀ q ∈ kX11_reach, xm_okb Iv RX11 cX11_reach false 25 lX11_reach q.2 q.1 := by
  intro q hq
  simp only [List.mem_cons, List.not_mem_nil, or_false] at hq
  rcases hq with rfl | rfl | rfl | rfl | rfl | rfl | rfl | rfl | rfl | rfl
  · exact oX11_reach_0 hI  
  · exact oX11_reach_18 hI  
  · exact oX11_reach_19 hI  
  · exact oX11_reach_29 hI  
  · exact oX11_reach_33 hI  
  · exact oX11_reach_52 hI  
  · exact oX11_reach_88 hI  
  · exact oX11_reach_89 hI  
  · exact oX11_reach_97 hI  
  · exact oX11_reach_103 hI  
def S_X11_reach : xS := tU fun as I Q => ∃ a, as = [.ref 0, .int a] ∧ t_good I ∧ g_need (tG I) ∧ t_P Q (q_reach (tG I) a)
theorem body_X11_reach : xm_Body 5 0 0 0 [] lX11_reach kX11_reach S_X11_reach := by
  intro X avs w Q QX hX0 hS
  have hG := xm_go [] hX0
  have hX := xm_go [33,52] hX0
  clear hX0
  obtain ⟨I, rfl, a, rfl, hg, hnd, hQ⟩ := hS
  refine ⟨rfl, ?_⟩
  repeat' (first
    | ((with_reducible refine @And.intro (vp_in _ _) _ ?_ ?_); (· (first | with_reducible assumption | ((with_reducible refine t_vin ?_); decide) | ((with_reducible refine vp_in_nI ?_ ?_) <;> first | omega | decide) | (simp (disch := omega) only [xl_n, xl_m, nI_dec, nI_sb, nI_add, pk_mul]; (with_reducible refine vp_in_nI ?_ ?_) <;> first | omega | decide))); (conv => whnf))
    | (refine And.intro (by first | with_reducible assumption | exact (show tL _ = _ from rfl) | decide) ?_; (conv => whnf))
    | ((with_reducible refine @And.intro (_ = _) _ ?_ ?_); (· rfl); (conv => whnf))
    | ((with_reducible refine @And.intro (@LE.le Nat _ _ _) _ ?_ ?_); (· (first | exact Nat.zero_le _ | exact Nat.le_of_ble_eq_true rfl | omega)); (conv => whnf))
    | ((with_reducible refine @And.intro (@LT.lt Nat _ _ _) _ ?_ ?_); (· omega); (conv => whnf))
    | ((with_reducible refine @And.intro (∃ _, _ = _) _ ?_ ?_); (· exact ⟨_, rfl⟩); (conv => whnf))
    | ((with_reducible refine @And.intro (_ ∨ _) _ ?_ ?_); (· (first | exact Or.inl rfl | exact Or.inr rfl | exact t_b01 _ | assumption)); (conv => whnf))
    | ((with_reducible refine @And.intro (¬ (_ = _)) _ ?_ ?_); (· first | assumption | (with_reducible assumption)); (conv => whnf))
    | (refine hX _ _ _ _ _ _ ?_; (conv => whnf); fail_if_success show False)
    | fail)
  rw [t_si]
  obtain ⟨J, hJ, hg1, hG1, h01⟩ := t_pub hg
  rw [← hJ]
  rw [← hG1] at hQ hnd
  clear hJ hG1 hg I
  have hg := hg1
  have hok := hg.1
  have hl := hg.2.1
  have h8 := hok.2.2.2.1
  have h9 := hok.2.1
  (conv => whnf)
  have ha2 := hok.2.2.2.2.1
  have h6a := hok.2.2.2.2.2
  rcases t_hc hg a with ⟨h, hh, rfl, e1, f1⟩ | ⟨e1, f1⟩
  · rw [q_reach, f1, g_ck_t, nI_clamp (by omega)] at hQ
    have l1 : ∀ a, a ≤ t_a J → ∀ M o, t_sp J M → M 0 0 = nI 0 → (o = none ∨ ∃ z, o = some (.int z)) → X 33 [some (.ref 0), some (.int (nI h)), some (.int (g_reachA (tG J) h a)), some (.int (nI a)), o] [] (tW M) 0 0 := by
      refine t_for fun a h1 ih M o hM h0 ho => ?_
      have hgM := hM.good hg
      have eG := hM.G hg
      have m2 : M 12 2 = nI (t_a J) := by rw [hM.1 12 (by decide) (t_nf (by omega))]; exact ha2
      have nx := ih (a + 1) (by omega)
      clear ih
      have l2 : a < t_a J → ∀ k, k ≤ gmany (tG J) a → ∀ M, t_sp J M → M 0 0 = nI 0 → t_cp M (g_act (tG J) a) → (∀ k, k < gmany (tG J) a → M 50 k = g_reach (g_nowc (tG J) a) k) → X 52 [some (.ref 0), some (.int (nI h)), some (.int (g_reachN (tG J) h a k (g_reachA (tG J) h a))), some (.int (nI a)), some (.int (nI k))] [] (tW M) 0 0 := by
        intro ha
        obtain ⟨hP, h6⟩ := t_act_ok hg ha
        have hlen : (g_act (tG J) a).length = gmany (tG J) a := g_actN_n
        refine t_for fun k h1 ih M hM h0 hcp hR => ?_
        have m51 := hcp.1
        rw [hlen] at m51 h6
        refine hG _ _ _ _ _ _ ?_
        (conv => whnf)
        repeat' (first
          | ((with_reducible refine @And.intro (vp_in _ _) _ ?_ ?_); (· (first | with_reducible assumption | ((with_reducible refine t_vin ?_); decide) | ((with_reducible refine vp_in_nI ?_ ?_) <;> first | omega | decide) | (simp (disch := omega) only [xl_n, xl_m, nI_dec, nI_sb, nI_add, pk_mul]; (with_reducible refine vp_in_nI ?_ ?_) <;> first | omega | decide))); (conv => whnf))
          | (refine And.intro (by first | with_reducible assumption | exact (show tL _ = _ from rfl) | decide) ?_; (conv => whnf))
          | ((with_reducible refine @And.intro (_ = _) _ ?_ ?_); (· rfl); (conv => whnf))
          | ((with_reducible refine @And.intro (@LE.le Nat _ _ _) _ ?_ ?_); (· (first | exact Nat.zero_le _ | exact Nat.le_of_ble_eq_true rfl | omega)); (conv => whnf))
          | ((with_reducible refine @And.intro (@LT.lt Nat _ _ _) _ ?_ ?_); (· omega); (conv => whnf))
          | ((with_reducible refine @And.intro (∃ _, _ = _) _ ?_ ?_); (· exact ⟨_, rfl⟩); (conv => whnf))
          | ((with_reducible refine @And.intro (_ ∨ _) _ ?_ ?_); (· (first | exact Or.inl rfl | exact Or.inr rfl | exact t_b01 _ | assumption)); (conv => whnf))
          | ((with_reducible refine @And.intro (¬ (_ = _)) _ ?_ ?_); (· first | assumption | (with_reducible assumption)); (conv => whnf))
          | (refine hX _ _ _ _ _ _ ?_; (conv => whnf); fail_if_success show False)
          | (rw [t_si]; (conv => whnf))
          | (refine ⟨_, rfl, ?_⟩; (conv => whnf))
          | (refine ⟨_, _, rfl, ?_⟩; (conv => whnf))
          | (refine ⟨_, _, _, rfl, ?_⟩; (conv => whnf))
          | (refine ⟨_, _, _, _, rfl, ?_⟩; (conv => whnf))
          | fail)
        refine And.intro (fun c => ?_) (fun c => ?_) <;> (conv => whnf)
        · have : k = gmany (tG J) a := Nat.le_antisymm h1 (t_kge m51 c (by omega) (by omega))
          subst this
          have := nx (by omega) M (some (.int (nI (gmany (tG J) a)))) hM h0 (Or.inr ⟨_, rfl⟩)
          rw [g_reachA_s] at this
          clear ih nx
          repeat' (first
            | ((with_reducible refine @And.intro (vp_in _ _) _ ?_ ?_); (· (first | with_reducible assumption | ((with_reducible refine t_vin ?_); decide) | ((with_reducible refine vp_in_nI ?_ ?_) <;> first | omega | decide) | (simp (disch := omega) only [xl_n, xl_m, nI_dec, nI_sb, nI_add, pk_mul]; (with_reducible refine vp_in_nI ?_ ?_) <;> first | omega | decide))); (conv => whnf))
            | (refine And.intro (by first | with_reducible assumption | exact (show tL _ = _ from rfl) | decide) ?_; (conv => whnf))
            | ((with_reducible refine @And.intro (_ = _) _ ?_ ?_); (· rfl); (conv => whnf))
            | ((with_reducible refine @And.intro (@LE.le Nat _ _ _) _ ?_ ?_); (· (first | exact Nat.zero_le _ | exact Nat.le_of_ble_eq_true rfl | omega)); (conv => whnf))
            | ((with_reducible refine @And.intro (@LT.lt Nat _ _ _) _ ?_ ?_); (· omega); (conv => whnf))
            | ((with_reducible refine @And.intro (∃ _, _ = _) _ ?_ ?_); (· exact ⟨_, rfl⟩); (conv => whnf))
            | ((with_reducible refine @And.intro (_ ∨ _) _ ?_ ?_); (· (first | exact Or.inl rfl | exact Or.inr rfl | exact t_b01 _ | assumption)); (conv => whnf))
            | ((with_reducible refine @And.intro (¬ (_ = _)) _ ?_ ?_); (· first | assumption | (with_reducible assumption)); (conv => whnf))
            | (refine hX _ _ _ _ _ _ ?_; (conv => whnf); fail_if_success show False)
            | (rw [t_si]; (conv => whnf))
            | (refine ⟨_, rfl, ?_⟩; (conv => whnf))
            | (refine ⟨_, _, rfl, ?_⟩; (conv => whnf))
            | (refine ⟨_, _, _, rfl, ?_⟩; (conv => whnf))
            | (refine ⟨_, _, _, _, rfl, ?_⟩; (conv => whnf))
            | (refine And.intro (fun c => ?_) (fun c => ?_) <;> (first | (exact absurd c (by decide +kernel)) | (conv => whnf)))
            | fail)
          clear hX hG hQ
          simp (disch := omega) only [xl_n, xl_m, nI_dec, nI_sb, xl_0, xl_1, tW_i, t_bn0, t_bn1, Classical.not_not, t_lt, nI_add, nI_1, pk_mul, nI_clamp, t_si, nI_eq, nI_leI, nM_ne, nM_ne, xm_set, xm_lv0, xm_psh] at *
          exact this
        · have hk : k < gmany (tG J) a := t_klt m51 c (by omega)
          obtain ⟨⟨q0, l0⟩, hat⟩ : ∃ z, (g_act (tG J) a)[k]? = some z := ⟨_, List.getElem?_eq_getElem (by omega)⟩
          obtain ⟨q46, q47⟩ := hcp.2 k _ _ hat
          have hq : q0 = gpup (tG J) a k := by
            have hat' := hat
            unfold g_act g_actN at hat'
            rw [List.getElem?_map, List.getElem?_range hk] at hat'
            cases hat'
            rfl
          have v50 := hR k hk
          have this := ih (k + 1) (by omega) (by omega) M hM h0 hcp hR
          rw [g_reachN_s, ← v50, ← hq] at this
          clear ih nx
          repeat' (first
            | ((with_reducible refine @And.intro (vp_in _ _) _ ?_ ?_); (· (first | with_reducible assumption | ((with_reducible refine t_vin ?_); decide) | ((with_reducible refine vp_in_nI ?_ ?_) <;> first | omega | decide) | (simp (disch := omega) only [xl_n, xl_m, nI_dec, nI_sb, nI_add, pk_mul]; (with_reducible refine vp_in_nI ?_ ?_) <;> first | omega | decide))); (conv => whnf))
            | (refine And.intro (by first | with_reducible assumption | exact (show tL _ = _ from rfl) | decide) ?_; (conv => whnf))
            | ((with_reducible refine @And.intro (_ = _) _ ?_ ?_); (· rfl); (conv => whnf))
            | ((with_reducible refine @And.intro (@LE.le Nat _ _ _) _ ?_ ?_); (· (first | exact Nat.zero_le _ | exact Nat.le_of_ble_eq_true rfl | omega)); (conv => whnf))
            | ((with_reducible refine @And.intro (@LT.lt Nat _ _ _) _ ?_ ?_); (· omega); (conv => whnf))
            | ((with_reducible refine @And.intro (∃ _, _ = _) _ ?_ ?_); (· exact ⟨_, rfl⟩); (conv => whnf))
            | ((with_reducible refine @And.intro (_ ∨ _) _ ?_ ?_); (· (first | exact Or.inl rfl | exact Or.inr rfl | exact t_b01 _ | assumption)); (conv => whnf))
            | ((with_reducible refine @And.intro (¬ (_ = _)) _ ?_ ?_); (· first | assumption | (with_reducible assumption)); (conv => whnf))
            | (refine hX _ _ _ _ _ _ ?_; (conv => whnf); fail_if_success show False)
            | (rw [t_si]; (conv => whnf))
            | (refine ⟨_, rfl, ?_⟩; (conv => whnf))
            | (refine ⟨_, _, rfl, ?_⟩; (conv => whnf))
            | (refine ⟨_, _, _, rfl, ?_⟩; (conv => whnf))
            | (refine ⟨_, _, _, _, rfl, ?_⟩; (conv => whnf))
            | (refine And.intro (fun c => ?_) (fun c => ?_) <;> (first | (exact absurd c (by decide +kernel)) | (conv => whnf)))
            | fail)
          · have c' : t_b (t_has (M 50 (nI k).toNatClampNeg) h) = 0 := by assumption
            rw [nI_clamp (by omega), t_b0] at c'
            rw [c', if_neg (by decide)] at this
            clear hX hG hQ
            simp (disch := omega) only [xl_n, xl_m, nI_dec, nI_sb, xl_0, xl_1, tW_i, t_bn0, t_bn1, Classical.not_not, t_lt, nI_add, nI_1, pk_mul, nI_clamp, t_si, nI_eq, nI_leI, nM_ne, nM_ne, xm_set, xm_lv0, xm_psh, q46] at *
            exact this
          · have c' : ¬ t_b (t_has (M 50 (nI k).toNatClampNeg) h) = 0 := by assumption
            rw [nI_clamp (by omega), t_b0, Bool.not_eq_false] at c'
            rw [if_pos c'] at this
            clear hX hG hQ
            simp (disch := omega) only [xl_n, xl_m, nI_dec, nI_sb, xl_0, xl_1, tW_i, t_bn0, t_bn1, Classical.not_not, t_lt, nI_add, nI_1, pk_mul, nI_clamp, t_si, nI_eq, nI_leI, nM_ne, nM_ne, xm_set, xm_lv0, xm_psh, q46] at *
            exact this
      rcases ho with rfl | ⟨z, rfl⟩
      all_goals
        refine hG _ _ _ _ _ _ ?_
        (conv => whnf)
        repeat' (first
          | ((with_reducible refine @And.intro (vp_in _ _) _ ?_ ?_); (· (first | with_reducible assumption | ((with_reducible refine t_vin ?_); decide) | ((with_reducible refine vp_in_nI ?_ ?_) <;> first | omega | decide) | (simp (disch := omega) only [xl_n, xl_m, nI_dec, nI_sb, nI_add, pk_mul]; (with_reducible refine vp_in_nI ?_ ?_) <;> first | omega | decide))); (conv => whnf))
          | (refine And.intro (by first | with_reducible assumption | exact (show tL _ = _ from rfl) | decide) ?_; (conv => whnf))
          | ((with_reducible refine @And.intro (_ = _) _ ?_ ?_); (· rfl); (conv => whnf))
          | ((with_reducible refine @And.intro (@LE.le Nat _ _ _) _ ?_ ?_); (· (first | exact Nat.zero_le _ | exact Nat.le_of_ble_eq_true rfl | omega)); (conv => whnf))
          | ((with_reducible refine @And.intro (@LT.lt Nat _ _ _) _ ?_ ?_); (· omega); (conv => whnf))
          | ((with_reducible refine @And.intro (∃ _, _ = _) _ ?_ ?_); (· exact ⟨_, rfl⟩); (conv => whnf))
          | ((with_reducible refine @And.intro (_ ∨ _) _ ?_ ?_); (· (first | exact Or.inl rfl | exact Or.inr rfl | exact t_b01 _ | assumption)); (conv => whnf))
          | ((with_reducible refine @And.intro (¬ (_ = _)) _ ?_ ?_); (· first | assumption | (with_reducible assumption)); (conv => whnf))
          | (refine hX _ _ _ _ _ _ ?_; (conv => whnf); fail_if_success show False)
          | (rw [t_si]; (conv => whnf))
          | (refine ⟨_, rfl, ?_⟩; (conv => whnf))
          | (refine ⟨_, _, rfl, ?_⟩; (conv => whnf))
          | (refine ⟨_, _, _, rfl, ?_⟩; (conv => whnf))
          | (refine ⟨_, _, _, _, rfl, ?_⟩; (conv => whnf))
          | fail)
        refine And.intro (fun c => ?_) (fun c => ?_) <;> (conv => whnf)
        · have : a = t_a J := Nat.le_antisymm h1 (t_kge m2 c (by omega) (by omega))
          subst this
          repeat' (first
            | ((with_reducible refine @And.intro (vp_in _ _) _ ?_ ?_); (· (first | with_reducible assumption | ((with_reducible refine t_vin ?_); decide) | ((with_reducible refine vp_in_nI ?_ ?_) <;> first | omega | decide) | (simp (disch := omega) only [xl_n, xl_m, nI_dec, nI_sb, nI_add, pk_mul]; (with_reducible refine vp_in_nI ?_ ?_) <;> first | omega | decide))); (conv => whnf))
            | (refine And.intro (by first | with_reducible assumption | exact (show tL _ = _ from rfl) | decide) ?_; (conv => whnf))
            | ((with_reducible refine @And.intro (_ = _) _ ?_ ?_); (· rfl); (conv => whnf))
            | ((with_reducible refine @And.intro (@LE.le Nat _ _ _) _ ?_ ?_); (· (first | exact Nat.zero_le _ | exact Nat.le_of_ble_eq_true rfl | omega)); (conv => whnf))
            | ((with_reducible refine @And.intro (@LT.lt Nat _ _ _) _ ?_ ?_); (· omega); (conv => whnf))
            | ((with_reducible refine @And.intro (∃ _, _ = _) _ ?_ ?_); (· exact ⟨_, rfl⟩); (conv => whnf))
            | ((with_reducible refine @And.intro (_ ∨ _) _ ?_ ?_); (· (first | exact Or.inl rfl | exact Or.inr rfl | exact t_b01 _ | assumption)); (conv => whnf))
            | ((with_reducible refine @And.intro (¬ (_ = _)) _ ?_ ?_); (· first | assumption | (with_reducible assumption)); (conv => whnf))
            | (refine hX _ _ _ _ _ _ ?_; (conv => whnf); fail_if_success show False)
            | (rw [t_si]; (conv => whnf))
            | (refine ⟨_, rfl, ?_⟩; (conv => whnf))
            | (refine ⟨_, _, rfl, ?_⟩; (conv => whnf))
            | (refine ⟨_, _, _, rfl, ?_⟩; (conv => whnf))
            | (refine ⟨_, _, _, _, rfl, ?_⟩; (conv => whnf))
            | (refine And.intro (fun c => ?_) (fun c => ?_) <;> (first | (exact absurd c (by decide +kernel)) | (conv => whnf)))
            | fail)
          exact t_ask hQ hg hM h0 rfl
        · have ha : a < t_a J := t_klt m2 c (by omega)
          have haM : a < t_a M := by
            have : t_a M = t_a J := by unfold t_a; rw [hM.1 12 (by decide) (t_nf (by omega))]
            omega
          have hndM : g_need (tG M) := by rw [eG]; exact hnd
          repeat' (first
            | ((with_reducible refine @And.intro (vp_in _ _) _ ?_ ?_); (· (first | with_reducible assumption | ((with_reducible refine t_vin ?_); decide) | ((with_reducible refine vp_in_nI ?_ ?_) <;> first | omega | decide) | (simp (disch := omega) only [xl_n, xl_m, nI_dec, nI_sb, nI_add, pk_mul]; (with_reducible refine vp_in_nI ?_ ?_) <;> first | omega | decide))); (conv => whnf))
            | (refine And.intro (by first | with_reducible assumption | exact (show tL _ = _ from rfl) | decide) ?_; (conv => whnf))
            | ((with_reducible refine @And.intro (_ = _) _ ?_ ?_); (· rfl); (conv => whnf))
            | ((with_reducible refine @And.intro (@LE.le Nat _ _ _) _ ?_ ?_); (· (first | exact Nat.zero_le _ | exact Nat.le_of_ble_eq_true rfl | omega)); (conv => whnf))
            | ((with_reducible refine @And.intro (@LT.lt Nat _ _ _) _ ?_ ?_); (· omega); (conv => whnf))
            | ((with_reducible refine @And.intro (∃ _, _ = _) _ ?_ ?_); (· exact ⟨_, rfl⟩); (conv => whnf))
            | ((with_reducible refine @And.intro (_ ∨ _) _ ?_ ?_); (· (first | exact Or.inl rfl | exact Or.inr rfl | exact t_b01 _ | assumption)); (conv => whnf))
            | ((with_reducible refine @And.intro (¬ (_ = _)) _ ?_ ?_); (· first | assumption | (with_reducible assumption)); (conv => whnf))
            | (refine hX _ _ _ _ _ _ ?_; (conv => whnf); fail_if_success show False)
            | (rw [t_si]; (conv => whnf))
            | (refine ⟨_, rfl, ?_⟩; (conv => whnf))
            | (refine ⟨_, _, rfl, ?_⟩; (conv => whnf))
            | (refine ⟨_, _, _, rfl, ?_⟩; (conv => whnf))
            | (refine ⟨_, _, _, _, rfl, ?_⟩; (conv => whnf))
            | (refine And.intro (fun c => ?_) (fun c => ?_) <;> (first | (exact absurd c (by decide +kernel)) | (conv => whnf)))
            | fail)
          intro L hL h0L hcp hA
          rw [eG] at hcp hA
          have := l2 ha 0 (Nat.zero_le _) L (hM.tr hL) (h0L.trans h0) hcp (fun k hk => (hA.1 rfl).2 k hk)
          clear l2 nx
          (conv => whnf)
          repeat' (first
            | ((with_reducible refine @And.intro (vp_in _ _) _ ?_ ?_); (· (first | with_reducible assumption | ((with_reducible refine t_vin ?_); decide) | ((with_reducible refine vp_in_nI ?_ ?_) <;> first | omega | decide) | (simp (disch := omega) only [xl_n, xl_m, nI_dec, nI_sb, nI_add, pk_mul]; (with_reducible refine vp_in_nI ?_ ?_) <;> first | omega | decide))); (conv => whnf))
            | (refine And.intro (by first | with_reducible assumption | exact (show tL _ = _ from rfl) | decide) ?_; (conv => whnf))
            | ((with_reducible refine @And.intro (_ = _) _ ?_ ?_); (· rfl); (conv => whnf))
            | ((with_reducible refine @And.intro (@LE.le Nat _ _ _) _ ?_ ?_); (· (first | exact Nat.zero_le _ | exact Nat.le_of_ble_eq_true rfl | omega)); (conv => whnf))
            | ((with_reducible refine @And.intro (@LT.lt Nat _ _ _) _ ?_ ?_); (· omega); (conv => whnf))
            | ((with_reducible refine @And.intro (∃ _, _ = _) _ ?_ ?_); (· exact ⟨_, rfl⟩); (conv => whnf))
            | ((with_reducible refine @And.intro (_ ∨ _) _ ?_ ?_); (· (first | exact Or.inl rfl | exact Or.inr rfl | exact t_b01 _ | assumption)); (conv => whnf))
            | ((with_reducible refine @And.intro (¬ (_ = _)) _ ?_ ?_); (· first | assumption | (with_reducible assumption)); (conv => whnf))
            | (refine hX _ _ _ _ _ _ ?_; (conv => whnf); fail_if_success show False)
            | (rw [t_si]; (conv => whnf))
            | (refine ⟨_, rfl, ?_⟩; (conv => whnf))
            | (refine ⟨_, _, rfl, ?_⟩; (conv => whnf))
            | (refine ⟨_, _, _, rfl, ?_⟩; (conv => whnf))
            | (refine ⟨_, _, _, _, rfl, ?_⟩; (conv => whnf))
            | (refine And.intro (fun c => ?_) (fun c => ?_) <;> (first | (exact absurd c (by decide +kernel)) | (conv => whnf)))
            | fail)
          exact this
    repeat' (first
      | ((with_reducible refine @And.intro (vp_in _ _) _ ?_ ?_); (· (first | with_reducible assumption | ((with_reducible refine t_vin ?_); decide) | ((with_reducible refine vp_in_nI ?_ ?_) <;> first | omega | decide) | (simp (disch := omega) only [xl_n, xl_m, nI_dec, nI_sb, nI_add, pk_mul]; (with_reducible refine vp_in_nI ?_ ?_) <;> first | omega | decide))); (conv => whnf))
      | (refine And.intro (by first | with_reducible assumption | exact (show tL _ = _ from rfl) | decide) ?_; (conv => whnf))
      | ((with_reducible refine @And.intro (_ = _) _ ?_ ?_); (· rfl); (conv => whnf))
      | ((with_reducible refine @And.intro (@LE.le Nat _ _ _) _ ?_ ?_); (· (first | exact Nat.zero_le _ | exact Nat.le_of_ble_eq_true rfl | omega)); (conv => whnf))
      | ((with_reducible refine @And.intro (@LT.lt Nat _ _ _) _ ?_ ?_); (· omega); (conv => whnf))
      | ((with_reducible refine @And.intro (∃ _, _ = _) _ ?_ ?_); (· exact ⟨_, rfl⟩); (conv => whnf))
      | ((with_reducible refine @And.intro (_ ∨ _) _ ?_ ?_); (· (first | exact Or.inl rfl | exact Or.inr rfl | exact t_b01 _ | assumption)); (conv => whnf))
      | ((with_reducible refine @And.intro (¬ (_ = _)) _ ?_ ?_); (· first | assumption | (with_reducible assumption)); (conv => whnf))
      | (refine hX _ _ _ _ _ _ ?_; (conv => whnf); fail_if_success show False)
      | (rw [t_si]; (conv => whnf))
      | (refine ⟨_, rfl, ?_⟩; (conv => whnf))
      | (refine ⟨_, _, rfl, ?_⟩; (conv => whnf))
      | (refine ⟨_, _, _, rfl, ?_⟩; (conv => whnf))
      | (refine ⟨_, _, _, _, rfl, ?_⟩; (conv => whnf))
      | (rw [e1]; (conv => whnf))
      | (refine And.intro (fun c => ?_) (fun c => ?_) <;> (first | (exact absurd c (by decide +kernel)) | (conv => whnf)))
      | fail)
    exact l1 0 (Nat.zero_le _) J none t_sp.rf h01 (Or.inl rfl)
  · rw [q_reach] at hQ
    repeat' (first
      | ((with_reducible refine @And.intro (vp_in _ _) _ ?_ ?_); (· (first | with_reducible assumption | ((with_reducible refine t_vin ?_); decide) | ((with_reducible refine vp_in_nI ?_ ?_) <;> first | omega | decide) | (simp (disch := omega) only [xl_n, xl_m, nI_dec, nI_sb, nI_add, pk_mul]; (with_reducible refine vp_in_nI ?_ ?_) <;> first | omega | decide))); (conv => whnf))
      | (refine And.intro (by first | with_reducible assumption | exact (show tL _ = _ from rfl) | decide) ?_; (conv => whnf))
      | ((with_reducible refine @And.intro (_ = _) _ ?_ ?_); (· rfl); (conv => whnf))
      | ((with_reducible refine @And.intro (@LE.le Nat _ _ _) _ ?_ ?_); (· (first | exact Nat.zero_le _ | exact Nat.le_of_ble_eq_true rfl | omega)); (conv => whnf))
      | ((with_reducible refine @And.intro (@LT.lt Nat _ _ _) _ ?_ ?_); (· omega); (conv => whnf))
      | ((with_reducible refine @And.intro (∃ _, _ = _) _ ?_ ?_); (· exact ⟨_, rfl⟩); (conv => whnf))
      | ((with_reducible refine @And.intro (_ ∨ _) _ ?_ ?_); (· (first | exact Or.inl rfl | exact Or.inr rfl | exact t_b01 _ | assumption)); (conv => whnf))
      | ((with_reducible refine @And.intro (¬ (_ = _)) _ ?_ ?_); (· first | assumption | (with_reducible assumption)); (conv => whnf))
      | (refine hX _ _ _ _ _ _ ?_; (conv => whnf); fail_if_success show False)
      | (rw [t_si]; (conv => whnf))
      | (refine ⟨_, rfl, ?_⟩; (conv => whnf))
      | (refine ⟨_, _, rfl, ?_⟩; (conv => whnf))
      | (refine ⟨_, _, _, rfl, ?_⟩; (conv => whnf))
      | (refine ⟨_, _, _, _, rfl, ?_⟩; (conv => whnf))
      | (rw [e1]; (conv => whnf))
      | (refine And.intro (fun c => ?_) (fun c => ?_) <;> (first | (exact absurd c (by decide +kernel)) | (conv => whnf)))
      | fail)
    exact t_ref' hQ hg h01 (by simp [f1]) (by decide) rfl rfl
theorem ct_X11_reach {Iv : xI} (hI : xm_good Iv) : xm_Ct Iv yX11_reach (ws_ yX11_reach cX11_reach 5 (some .int)) 25 0 0 S_X11_reach := xm_enter (rt := 0) (init := false) (by decide +kernel) rfl (fun h => by cases h) (Or.inl ⟨rfl, rfl⟩) (oX11_reach hI) body_X11_reach
theorem cv_X11_reach {Iv : xI} {own : String} {cc : ByteArray} {fr pc idx : Nat} (hI : xm_good Iv) (hdg : decode cc pc = .ok (.invokevirtual idx, 3)) (hl : xm_ml own idx yX11_reach) (hfr : 25 < fr) : xm_CallOK Iv own cc fr pc (pc + 3) 2 0 0 (xm_this 8 S_X11_reach) := xm_callV 8 hI (ct_X11_reach hI) hdg hl q2477 q2478 q145 q2479 rfl rfl (by decide +kernel) hfr (by decide)
def q_played (G : gG) : gR := g_says G (t_or (gacts G) fun a => g_is (g_nowc G a))
abbrev bX11_played_0 : List xE := [(.aload_n 0, 1, 0, 0, 0), (.iconst 0, 2, 0, 0, 0), (.putfield 134, 5, 8, 0, 0), (.iconst 0, 6, 0, 0, 0), (.istore_n 1, 7, 0, 0, 0), (.iconst 0, 8, 0, 0, 0), (.istore_n 2, 9, 0, 0, 0)]
abbrev bX11_played_9 : List xE := [(.iload_n 2, 10, 0, 0, 0), (.aload_n 0, 11, 0, 0, 0), (.getfield 23, 14, 8, 12, 1), (.iconst 2, 15, 0, 0, 0), (.iaload, 16, 0, 0, 0), (.if_icmp .ge 31, 19, 0, 47, 0), (.iload_n 1, 20, 0, 0, 0), (.aload_n 0, 21, 0, 0, 0), (.aload_n 0, 22, 0, 0, 0), (.getfield 91, 25, 8, 36, 1), (.iload_n 2, 26, 0, 0, 0), (.invokevirtual 388, 29, 0, 0, 9), (.ifCond .eq 9, 32, 0, 38, 0), (.iconst 1, 33, 0, 0, 0), (.iload_n 2, 34, 0, 0, 0), (.ishl, 35, 0, 0, 0), (.goto 4, 38, 0, 39, 0)]
abbrev bX11_played_38 : List xE := [(.iconst 0, 39, 0, 0, 0)]
abbrev bX11_played_39 : List xE := [(.ior, 40, 0, 0, 0), (.istore_n 1, 41, 0, 0, 0), (.iinc 2 1, 44, 0, 0, 0), (.goto (-35), 47, 0, 9, 0)]
abbrev bX11_played_47 : List xE := [(.iload_n 1, 48, 0, 0, 0), (.ireturn, 49, 0, 0, 0)]
abbrev kX11_played : List (Nat × List xE) := [(0, bX11_played_0), (9, bX11_played_9), (38, bX11_played_38), (39, bX11_played_39), (47, bX11_played_47)]
abbrev lX11_played : List (Nat × Nat × Nat × xS) := [(3, 0, 0, xm_this 8 S_X11_isCast)]
theorem oX11_played_0 {Iv : xI} (hI : xm_good Iv)  : xm_okb Iv RX11 cX11_played false 25 lX11_played bX11_played_0 0 := xo_0 dX11_played_0 rfl trivial (xo_0 dX11_played_1 rfl trivial (xo_0 dX11_played_2 rfl (xm_fp_of (xm_fg_of (Or.inl q1955) (by decide) rfl (by decide) rfl rfl (Or.inl rfl) rfl) (by decide) rfl (Or.inl ⟨rfl, rfl⟩) rfl) (xo_0 dX11_played_5 rfl trivial (xo_0 dX11_played_6 rfl trivial (xo_0 dX11_played_7 rfl trivial (xo_0 dX11_played_8 rfl trivial (xo_n)))))))
theorem oX11_played_9 {Iv : xI} (hI : xm_good Iv)  : xm_okb Iv RX11 cX11_played false 25 lX11_played bX11_played_9 9 := xo_0 dX11_played_9 rfl trivial (xo_0 dX11_played_10 rfl trivial (xo_1 dX11_played_11 rfl (xm_fg_of (Or.inl q1967) (by decide) rfl (by decide) rfl rfl (Or.inl rfl) rfl) (xo_0 dX11_played_14 rfl trivial (xo_0 dX11_played_15 rfl trivial (xo_0 dX11_played_16 rfl rfl (xo_0 dX11_played_19 rfl trivial (xo_0 dX11_played_20 rfl trivial (xo_0 dX11_played_21 rfl trivial (xo_1 dX11_played_22 rfl (xm_fg_of (Or.inl q1991) (by decide) rfl (by decide) rfl rfl (Or.inl rfl) rfl) (xo_0 dX11_played_25 rfl trivial (xo_c rfl (cv_X11_isCast hI dX11_played_26 (Or.inl q2419) (by decide)) (xo_0 dX11_played_29 rfl rfl (xo_0 dX11_played_32 rfl trivial (xo_0 dX11_played_33 rfl trivial (xo_0 dX11_played_34 rfl trivial (xo_0 dX11_played_35 rfl rfl (xo_n)))))))))))))))))
theorem oX11_played_38 {Iv : xI} (hI : xm_good Iv)  : xm_okb Iv RX11 cX11_played false 25 lX11_played bX11_played_38 38 := xo_0 dX11_played_38 rfl trivial (xo_n)
theorem oX11_played_39 {Iv : xI} (hI : xm_good Iv)  : xm_okb Iv RX11 cX11_played false 25 lX11_played bX11_played_39 39 := xo_0 dX11_played_39 rfl trivial (xo_0 dX11_played_40 rfl trivial (xo_0 dX11_played_41 rfl trivial (xo_0 dX11_played_44 rfl rfl (xo_n))))
theorem oX11_played_47 {Iv : xI} (hI : xm_good Iv)  : xm_okb Iv RX11 cX11_played false 25 lX11_played bX11_played_47 47 := xo_0 dX11_played_47 rfl trivial (xo_0 dX11_played_48 rfl trivial (xo_n))
theorem oX11_played {Iv : xI} (hI : xm_good Iv)  : ∀ q ∈ kX11_played, xm_okb Iv RX11 cX11_played false 25 lX11_played q.2 q.1 := by
  intro q hq
  simp only [List.mem_cons, List.not_mem_nil, or_false] at hq
  rcases hq with rfl | rfl | rfl | rfl | rfl
  · exact oX11_played_0 hI  
  · exact oX11_played_9 hI  
  · exact oX11_played_38 hI  
  · exact oX11_played_39 hI  
  · exact oX11_played_47 hI  
def S_X11_played : xS := tU fun as I Q => as = [.ref 0] ∧ t_good I ∧ g_need (tG I) ∧ t_P Q (q_played (tG I))
theorem body_X11_played : xm_Body 3 0 0 0 [] lX11_played kX11_played S_X11_played := by
  intro X avs w Q QX hX0 hS
  have hG := xm_go [] hX0
  have hX := xm_go [9] hX0
  clear hX0
  obtain ⟨I, rfl, rfl, hg, hnd, hQ⟩ := hS
  refine ⟨rfl, ?_⟩
  repeat' (first
    | ((with_reducible refine @And.intro (vp_in _ _) _ ?_ ?_); (· (first | with_reducible assumption | ((with_reducible refine t_vin ?_); decide) | ((with_reducible refine vp_in_nI ?_ ?_) <;> first | omega | decide) | (simp (disch := omega) only [xl_n, xl_m, nI_dec, nI_sb, nI_add, pk_mul]; (with_reducible refine vp_in_nI ?_ ?_) <;> first | omega | decide))); (conv => whnf))
    | (refine And.intro (by first | with_reducible assumption | exact (show tL _ = _ from rfl) | decide) ?_; (conv => whnf))
    | ((with_reducible refine @And.intro (_ = _) _ ?_ ?_); (· rfl); (conv => whnf))
    | ((with_reducible refine @And.intro (@LE.le Nat _ _ _) _ ?_ ?_); (· (first | exact Nat.zero_le _ | exact Nat.le_of_ble_eq_true rfl | omega)); (conv => whnf))
    | ((with_reducible refine @And.intro (@LT.lt Nat _ _ _) _ ?_ ?_); (· omega); (conv => whnf))
    | ((with_reducible refine @And.intro (∃ _, _ = _) _ ?_ ?_); (· exact ⟨_, rfl⟩); (conv => whnf))
    | ((with_reducible refine @And.intro (_ ∨ _) _ ?_ ?_); (· (first | exact Or.inl rfl | exact Or.inr rfl | exact t_b01 _ | assumption)); (conv => whnf))
    | ((with_reducible refine @And.intro (¬ (_ = _)) _ ?_ ?_); (· first | assumption | (with_reducible assumption)); (conv => whnf))
    | (refine hX _ _ _ _ _ _ ?_; (conv => whnf); fail_if_success show False)
    | fail)
  rw [t_si]
  obtain ⟨J, hJ, hg1, hG1, h01⟩ := t_pub hg
  rw [← hJ]
  rw [← hG1] at hQ hnd
  clear hJ hG1 hg I
  have hg := hg1
  have hok := hg.1
  have hl := hg.2.1
  have h8 := hok.2.2.2.1
  have h9 := hok.2.1
  (conv => whnf)
  have ha2 := hok.2.2.2.2.1
  have h6a := hok.2.2.2.2.2
  have l1 : ∀ a, a ≤ t_a J → ∀ M, t_sp J M → M 0 0 = nI 0 → X 9 [some (.ref 0), some (.int (t_or a fun a => g_is (g_nowc (tG J) a))), some (.int (nI a))] [] (tW M) 0 0 := by
    refine t_for fun a h1 ih M hM h0 => ?_
    have hgM := hM.good hg
    have eG := hM.G hg
    have eK : tK M = tK J := hM.same.K hg
    have eA : tA M 36 = tA J 36 := tA_eq fun j _ => by rw [hM.1 36 (by decide) (t_nf (by omega))]
    have m2 : M 12 2 = nI (t_a J) := by rw [hM.1 12 (by decide) (t_nf (by omega))]; exact ha2
    have nx := ih (a + 1) (by omega)
    clear ih
    refine hG _ _ _ _ _ _ ?_
    (conv => whnf)
    repeat' (first
      | ((with_reducible refine @And.intro (vp_in _ _) _ ?_ ?_); (· (first | with_reducible assumption | ((with_reducible refine t_vin ?_); decide) | ((with_reducible refine vp_in_nI ?_ ?_) <;> first | omega | decide) | (simp (disch := omega) only [xl_n, xl_m, nI_dec, nI_sb, nI_add, pk_mul]; (with_reducible refine vp_in_nI ?_ ?_) <;> first | omega | decide))); (conv => whnf))
      | (refine And.intro (by first | with_reducible assumption | exact (show tL _ = _ from rfl) | decide) ?_; (conv => whnf))
      | ((with_reducible refine @And.intro (_ = _) _ ?_ ?_); (· rfl); (conv => whnf))
      | ((with_reducible refine @And.intro (@LE.le Nat _ _ _) _ ?_ ?_); (· (first | exact Nat.zero_le _ | exact Nat.le_of_ble_eq_true rfl | omega)); (conv => whnf))
      | ((with_reducible refine @And.intro (@LT.lt Nat _ _ _) _ ?_ ?_); (· omega); (conv => whnf))
      | ((with_reducible refine @And.intro (∃ _, _ = _) _ ?_ ?_); (· exact ⟨_, rfl⟩); (conv => whnf))
      | ((with_reducible refine @And.intro (_ ∨ _) _ ?_ ?_); (· (first | exact Or.inl rfl | exact Or.inr rfl | exact t_b01 _ | assumption)); (conv => whnf))
      | ((with_reducible refine @And.intro (¬ (_ = _)) _ ?_ ?_); (· first | assumption | (with_reducible assumption)); (conv => whnf))
      | (refine hX _ _ _ _ _ _ ?_; (conv => whnf); fail_if_success show False)
      | (rw [t_si]; (conv => whnf))
      | (refine ⟨_, rfl, ?_⟩; (conv => whnf))
      | (refine ⟨_, _, rfl, ?_⟩; (conv => whnf))
      | (refine ⟨_, _, _, rfl, ?_⟩; (conv => whnf))
      | (refine ⟨_, _, _, _, rfl, ?_⟩; (conv => whnf))
      | fail)
    refine And.intro (fun c => ?_) (fun c => ?_) <;> (conv => whnf)
    · have : a = t_a J := Nat.le_antisymm h1 (t_kge m2 c (by omega) (by omega))
      subst this
      repeat' (first
        | ((with_reducible refine @And.intro (vp_in _ _) _ ?_ ?_); (· (first | with_reducible assumption | ((with_reducible refine t_vin ?_); decide) | ((with_reducible refine vp_in_nI ?_ ?_) <;> first | omega | decide) | (simp (disch := omega) only [xl_n, xl_m, nI_dec, nI_sb, nI_add, pk_mul]; (with_reducible refine vp_in_nI ?_ ?_) <;> first | omega | decide))); (conv => whnf))
        | (refine And.intro (by first | with_reducible assumption | exact (show tL _ = _ from rfl) | decide) ?_; (conv => whnf))
        | ((with_reducible refine @And.intro (_ = _) _ ?_ ?_); (· rfl); (conv => whnf))
        | ((with_reducible refine @And.intro (@LE.le Nat _ _ _) _ ?_ ?_); (· (first | exact Nat.zero_le _ | exact Nat.le_of_ble_eq_true rfl | omega)); (conv => whnf))
        | ((with_reducible refine @And.intro (@LT.lt Nat _ _ _) _ ?_ ?_); (· omega); (conv => whnf))
        | ((with_reducible refine @And.intro (∃ _, _ = _) _ ?_ ?_); (· exact ⟨_, rfl⟩); (conv => whnf))
        | ((with_reducible refine @And.intro (_ ∨ _) _ ?_ ?_); (· (first | exact Or.inl rfl | exact Or.inr rfl | exact t_b01 _ | assumption)); (conv => whnf))
        | ((with_reducible refine @And.intro (¬ (_ = _)) _ ?_ ?_); (· first | assumption | (with_reducible assumption)); (conv => whnf))
        | (refine hX _ _ _ _ _ _ ?_; (conv => whnf); fail_if_success show False)
        | (rw [t_si]; (conv => whnf))
        | (refine ⟨_, rfl, ?_⟩; (conv => whnf))
        | (refine ⟨_, _, rfl, ?_⟩; (conv => whnf))
        | (refine ⟨_, _, _, rfl, ?_⟩; (conv => whnf))
        | (refine ⟨_, _, _, _, rfl, ?_⟩; (conv => whnf))
        | (refine And.intro (fun c => ?_) (fun c => ?_) <;> (first | (exact absurd c (by decide +kernel)) | (conv => whnf)))
        | fail)
      exact t_ask hQ hg hM h0 rfl
    · have ha : a < t_a J := t_klt m2 c (by omega)
      have haM : a < t_a M := by
        have : t_a M = t_a J := by unfold t_a; rw [hM.1 12 (by decide) (t_nf (by omega))]
        omega
      have hndM : g_need (tG M) := by rw [eG]; exact hnd
      repeat' (first
        | ((with_reducible refine @And.intro (vp_in _ _) _ ?_ ?_); (· (first | with_reducible assumption | ((with_reducible refine t_vin ?_); decide) | ((with_reducible refine vp_in_nI ?_ ?_) <;> first | omega | decide) | (simp (disch := omega) only [xl_n, xl_m, nI_dec, nI_sb, nI_add, pk_mul]; (with_reducible refine vp_in_nI ?_ ?_) <;> first | omega | decide))); (conv => whnf))
        | (refine And.intro (by first | with_reducible assumption | exact (show tL _ = _ from rfl) | decide) ?_; (conv => whnf))
        | ((with_reducible refine @And.intro (_ = _) _ ?_ ?_); (· rfl); (conv => whnf))
        | ((with_reducible refine @And.intro (@LE.le Nat _ _ _) _ ?_ ?_); (· (first | exact Nat.zero_le _ | exact Nat.le_of_ble_eq_true rfl | omega)); (conv => whnf))
        | ((with_reducible refine @And.intro (@LT.lt Nat _ _ _) _ ?_ ?_); (· omega); (conv => whnf))
        | ((with_reducible refine @And.intro (∃ _, _ = _) _ ?_ ?_); (· exact ⟨_, rfl⟩); (conv => whnf))
        | ((with_reducible refine @And.intro (_ ∨ _) _ ?_ ?_); (· (first | exact Or.inl rfl | exact Or.inr rfl | exact t_b01 _ | assumption)); (conv => whnf))
        | ((with_reducible refine @And.intro (¬ (_ = _)) _ ?_ ?_); (· first | assumption | (with_reducible assumption)); (conv => whnf))
        | (refine hX _ _ _ _ _ _ ?_; (conv => whnf); fail_if_success show False)
        | (rw [t_si]; (conv => whnf))
        | (refine ⟨_, rfl, ?_⟩; (conv => whnf))
        | (refine ⟨_, _, rfl, ?_⟩; (conv => whnf))
        | (refine ⟨_, _, _, rfl, ?_⟩; (conv => whnf))
        | (refine ⟨_, _, _, _, rfl, ?_⟩; (conv => whnf))
        | (refine And.intro (fun c => ?_) (fun c => ?_) <;> (first | (exact absurd c (by decide +kernel)) | (conv => whnf)))
        | fail)
      intro L hL h0L _
      rw [eG, eK, eA]
      have nx := nx (by omega) L (hM.tr hL) (h0L.trans h0)
      rw [t_or_s] at nx
      (conv => whnf)
      repeat' (first
        | ((with_reducible refine @And.intro (vp_in _ _) _ ?_ ?_); (· (first | with_reducible assumption | ((with_reducible refine t_vin ?_); decide) | ((with_reducible refine vp_in_nI ?_ ?_) <;> first | omega | decide) | (simp (disch := omega) only [xl_n, xl_m, nI_dec, nI_sb, nI_add, pk_mul]; (with_reducible refine vp_in_nI ?_ ?_) <;> first | omega | decide))); (conv => whnf))
        | (refine And.intro (by first | with_reducible assumption | exact (show tL _ = _ from rfl) | decide) ?_; (conv => whnf))
        | ((with_reducible refine @And.intro (_ = _) _ ?_ ?_); (· rfl); (conv => whnf))
        | ((with_reducible refine @And.intro (@LE.le Nat _ _ _) _ ?_ ?_); (· (first | exact Nat.zero_le _ | exact Nat.le_of_ble_eq_true rfl | omega)); (conv => whnf))
        | ((with_reducible refine @And.intro (@LT.lt Nat _ _ _) _ ?_ ?_); (· omega); (conv => whnf))
        | ((with_reducible refine @And.intro (∃ _, _ = _) _ ?_ ?_); (· exact ⟨_, rfl⟩); (conv => whnf))
        | ((with_reducible refine @And.intro (_ ∨ _) _ ?_ ?_); (· (first | exact Or.inl rfl | exact Or.inr rfl | exact t_b01 _ | assumption)); (conv => whnf))
        | ((with_reducible refine @And.intro (¬ (_ = _)) _ ?_ ?_); (· first | assumption | (with_reducible assumption)); (conv => whnf))
        | (refine hX _ _ _ _ _ _ ?_; (conv => whnf); fail_if_success show False)
        | (rw [t_si]; (conv => whnf))
        | (refine ⟨_, rfl, ?_⟩; (conv => whnf))
        | (refine ⟨_, _, rfl, ?_⟩; (conv => whnf))
        | (refine ⟨_, _, _, rfl, ?_⟩; (conv => whnf))
        | (refine ⟨_, _, _, _, rfl, ?_⟩; (conv => whnf))
        | (refine And.intro (fun c => ?_) (fun c => ?_) <;> (first | (exact absurd c (by decide +kernel)) | (conv => whnf)))
        | fail)
      · have c' : t_b (g_is (g_nowc (tG J) a)) = 0 := by assumption
        rw [t_b0] at c'
        rw [c', if_neg (by decide)] at nx
        clear hX hG hQ
        simp (disch := omega) only [xl_n, xl_m, nI_dec, nI_sb, xl_0, xl_1, tW_i, t_bn0, t_bn1, Classical.not_not, t_lt, nI_add, nI_1, pk_mul, nI_clamp, t_si, nI_eq, nI_leI, nM_ne, nM_ne, xm_set, xm_lv0, xm_psh] at *
        exact nx
      · have c' : ¬ t_b (g_is (g_nowc (tG J) a)) = 0 := by assumption
        rw [t_b0, Bool.not_eq_false] at c'
        rw [if_pos c'] at nx
        clear hX hG hQ
        simp (disch := omega) only [xl_n, xl_m, nI_dec, nI_sb, xl_0, xl_1, tW_i, t_bn0, t_bn1, Classical.not_not, t_lt, nI_add, nI_1, pk_mul, nI_clamp, t_si, nI_eq, nI_leI, nM_ne, nM_ne, xm_set, xm_lv0, xm_psh] at *
        exact nx
  repeat' (first
    | ((with_reducible refine @And.intro (vp_in _ _) _ ?_ ?_); (· (first | with_reducible assumption | ((with_reducible refine t_vin ?_); decide) | ((with_reducible refine vp_in_nI ?_ ?_) <;> first | omega | decide) | (simp (disch := omega) only [xl_n, xl_m, nI_dec, nI_sb, nI_add, pk_mul]; (with_reducible refine vp_in_nI ?_ ?_) <;> first | omega | decide))); (conv => whnf))
    | (refine And.intro (by first | with_reducible assumption | exact (show tL _ = _ from rfl) | decide) ?_; (conv => whnf))
    | ((with_reducible refine @And.intro (_ = _) _ ?_ ?_); (· rfl); (conv => whnf))
    | ((with_reducible refine @And.intro (@LE.le Nat _ _ _) _ ?_ ?_); (· (first | exact Nat.zero_le _ | exact Nat.le_of_ble_eq_true rfl | omega)); (conv => whnf))
    | ((with_reducible refine @And.intro (@LT.lt Nat _ _ _) _ ?_ ?_); (· omega); (conv => whnf))
    | ((with_reducible refine @And.intro (∃ _, _ = _) _ ?_ ?_); (· exact ⟨_, rfl⟩); (conv => whnf))
    | ((with_reducible refine @And.intro (_ ∨ _) _ ?_ ?_); (· (first | exact Or.inl rfl | exact Or.inr rfl | exact t_b01 _ | assumption)); (conv => whnf))
    | ((with_reducible refine @And.intro (¬ (_ = _)) _ ?_ ?_); (· first | assumption | (with_reducible assumption)); (conv => whnf))
    | (refine hX _ _ _ _ _ _ ?_; (conv => whnf); fail_if_success show False)
    | (rw [t_si]; (conv => whnf))
    | (refine ⟨_, rfl, ?_⟩; (conv => whnf))
    | (refine ⟨_, _, rfl, ?_⟩; (conv => whnf))
    | (refine ⟨_, _, _, rfl, ?_⟩; (conv => whnf))
    | (refine ⟨_, _, _, _, rfl, ?_⟩; (conv => whnf))
    | (refine And.intro (fun c => ?_) (fun c => ?_) <;> (first | (exact absurd c (by decide +kernel)) | (conv => whnf)))
    | fail)
  exact l1 0 (Nat.zero_le _) J t_sp.rf h01
theorem ct_X11_played {Iv : xI} (hI : xm_good Iv) : xm_Ct Iv yX11_played (ws_ yX11_played cX11_played 3 (some .int)) 25 0 0 S_X11_played := xm_enter (rt := 0) (init := false) (by decide +kernel) rfl (fun h => by cases h) (Or.inl ⟨rfl, rfl⟩) (oX11_played hI) body_X11_played
theorem cv_X11_played {Iv : xI} {own : String} {cc : ByteArray} {fr pc idx : Nat} (hI : xm_good Iv) (hdg : decode cc pc = .ok (.invokevirtual idx, 3)) (hl : xm_ml own idx yX11_played) (hfr : 25 < fr) : xm_CallOK Iv own cc fr pc (pc + 3) 1 0 0 (xm_this 8 S_X11_played) := xm_callV 8 hI (ct_X11_played hI) hdg hl q2489 q2490 q145 q2491 rfl rfl (by decide +kernel) hfr (by decide)
