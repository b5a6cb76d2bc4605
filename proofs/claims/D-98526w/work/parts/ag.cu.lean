/-! ===== the component: when, fades, undo ===== -/
set_option maxRecDepth 100000
abbrev bX1_when_0 : List xE := [(.aload_n 0, 1, 0, 0, 0), (.iload_n 1, 2, 0, 0, 0), (.invokevirtual 217, 5, 0, 0, 9), (.aload_n 0, 6, 0, 0, 0), (.iload_n 2, 7, 0, 0, 0), (.invokevirtual 238, 10, 0, 1, 9), (.aload_n 0, 11, 0, 0, 0), (.getfield 65, 14, 0, 7, 1), (.aload_n 0, 15, 0, 0, 0), (.getfield 58, 18, 0, 5, 1), (.invokevirtual 110, 21, 0, 2, 9), (.astore_n 3, 22, 0, 0, 0), (.iconst 0, 23, 0, 0, 0), (.istore 4, 25, 0, 0, 0)]
abbrev bX1_when_25 : List xE := [(.iload 4, 27, 0, 0, 0), (.bipush 60, 29, 0, 0, 0), (.if_icmp .ge 26, 32, 0, 55, 0), (.aload_n 3, 33, 0, 0, 0), (.invokevirtual 301, 36, 0, 3, 9), (.iload_n 2, 37, 0, 0, 0), (.iload_n 1, 38, 0, 0, 0), (.invokevirtual 303, 41, 0, 4, 9), (.ifCond .eq 8, 44, 0, 49, 0), (.aload_n 3, 45, 0, 0, 0), (.getfield 201, 48, 7, 6, 0), (.ireturn, 49, 0, 0, 0)]
abbrev bX1_when_49 : List xE := [(.iinc 4 1, 52, 0, 0, 0), (.goto (-27), 55, 0, 25, 0)]
abbrev bX1_when_55 : List xE := [(.iconst (-1), 56, 0, 0, 0), (.ireturn, 57, 0, 0, 0)]
abbrev kX1_when : List (Nat × List xE) := [(0, bX1_when_0), (25, bX1_when_25), (49, bX1_when_49), (55, bX1_when_55)]
abbrev lX1_when : List (Nat × Nat × Nat × xS) := [(2, 1, 6, xm_this 0 S_X1_needHand), (2, 1, 6, xm_this 0 S_X1_needPuppet), (2, 0, 0, xm_this 7 S_X10_becomes), (1, 0, 0, xm_this 7 S_X10_goes), (3, 0, 0, xm_this 7 S_X10_isOf)]
theorem oX1_when_0  : xm_okb cI RX1 cX1_when false 164 lX1_when bX1_when_0 0 := xo_0 dX1_when_0 rfl trivial (xo_0 dX1_when_1 rfl trivial (xo_c rfl (cv_X1_needHand dX1_when_2 (Or.inl q1576) (by decide)) (xo_0 dX1_when_5 rfl trivial (xo_0 dX1_when_6 rfl trivial (xo_c rfl (cv_X1_needPuppet dX1_when_7 (Or.inl q1607) (by decide)) (xo_0 dX1_when_10 rfl trivial (xo_1 dX1_when_11 rfl (xm_fg_of (Or.inl q726) (by decide) rfl (by decide) rfl rfl (Or.inl rfl) rfl) (xo_0 dX1_when_14 rfl trivial (xo_1 dX1_when_15 rfl (xm_fg_of (Or.inl q724) (by decide) rfl (by decide) rfl rfl (Or.inl rfl) rfl) (xo_c rfl (cv_X10_becomes dX1_when_18 (Or.inl q711) (by decide)) (xo_0 dX1_when_21 rfl trivial (xo_0 dX1_when_22 rfl trivial (xo_0 dX1_when_23 rfl trivial (xo_n))))))))))))))
theorem oX1_when_25  : xm_okb cI RX1 cX1_when false 164 lX1_when bX1_when_25 25 := xo_0 dX1_when_25 rfl trivial (xo_0 dX1_when_27 rfl (xo_bipush (by decide +kernel)) (xo_0 dX1_when_29 rfl rfl (xo_0 dX1_when_32 rfl trivial (xo_c rfl (cv_X10_goes dX1_when_33 (Or.inl q872) (by decide)) (xo_0 dX1_when_36 rfl trivial (xo_0 dX1_when_37 rfl trivial (xo_c rfl (cv_X10_isOf dX1_when_38 (Or.inl q1693) (by decide)) (xo_0 dX1_when_41 rfl rfl (xo_0 dX1_when_44 rfl trivial (xo_0 dX1_when_45 rfl (xm_fg_of (Or.inr ⟨_, q675⟩) (by decide) rfl (by decide) rfl rfl (Or.inl rfl) rfl) (xo_0 dX1_when_48 rfl trivial (xo_n))))))))))))
theorem oX1_when_49  : xm_okb cI RX1 cX1_when false 164 lX1_when bX1_when_49 49 := xo_0 dX1_when_49 rfl trivial (xo_0 dX1_when_52 rfl rfl (xo_n))
theorem oX1_when_55  : xm_okb cI RX1 cX1_when false 164 lX1_when bX1_when_55 55 := xo_0 dX1_when_55 rfl trivial (xo_0 dX1_when_56 rfl trivial (xo_n))
theorem oX1_when  : ∀ q ∈ kX1_when, xm_okb cI RX1 cX1_when false 164 lX1_when q.2 q.1 := by
  intro q hq
  simp only [List.mem_cons, List.not_mem_nil, or_false] at hq
  rcases hq with rfl | rfl | rfl | rfl
  · exact oX1_when_0  
  · exact oX1_when_25  
  · exact oX1_when_49  
  · exact oX1_when_55  
def S_X1_when : xS := cU fun as P Z I Q QX => ∃ a b L, as = [.ref 0, .int a, .int b] ∧ c_good P Z I L ∧ g_ok (cG P I L) ∧ c_P P Z L (cG P I L) Q QX (q_when (cG P I L) a b)
theorem body_X1_when : xm_Body 5 0 2 12 [] lX1_when kX1_when S_X1_when := by
  intro X avs w Q QX hX0 hS
  have hG := xm_go [] hX0
  have hX := xm_go [25, 49] hX0
  clear hX0
  obtain ⟨P, Z, I, rfl, a, b, L, rfl, hg, hk0, hQ⟩ := hS
  have hok := hg.ok
  obtain ⟨hn, h9, hm, h8⟩ := id hok
  have h5 := c_5 (P := P)
  have h7 := c_7 (P := P)
  have ht := hg.now
  obtain ⟨y, hy, ey⟩ := hk0.now.1
  refine ⟨rfl, ?_⟩
  repeat' (first
    | ((with_reducible refine @And.intro (vp_in _ _) _ ?_ ?_); (· (first | with_reducible assumption | ((with_reducible refine t_vin ?_); decide) | ((with_reducible refine vp_in_nI ?_ ?_) <;> first | omega | decide) | (simp (disch := omega) only [xl_n, xl_m, nI_dec, nI_sb, nI_add, pk_mul]; (with_reducible refine vp_in_nI ?_ ?_) <;> first | omega | decide))); (conv => whnf))
    | (refine And.intro (by first | with_reducible assumption | exact (show cL _ _ = _ from rfl) | decide) ?_; (conv => whnf))
    | ((with_reducible refine @And.intro (_ = _) _ ?_ ?_); (· rfl); (conv => whnf))
    | ((with_reducible refine @And.intro (@LE.le Nat _ _ _) _ ?_ ?_); (· (first | exact Nat.zero_le _ | exact Nat.le_of_ble_eq_true rfl | omega)); (conv => whnf))
    | ((with_reducible refine @And.intro (@LT.lt Nat _ _ _) _ ?_ ?_); (· omega); (conv => whnf))
    | ((with_reducible refine @And.intro (∃ _, _ = _) _ ?_ ?_); (· exact ⟨_, rfl⟩); (conv => whnf))
    | ((with_reducible refine @And.intro (_ ∨ _) _ ?_ ?_); (· (first | exact Or.inl rfl | exact Or.inr rfl | exact t_b01 _ | assumption)); (conv => whnf))
    | ((with_reducible refine @And.intro (¬ (_ = _)) _ ?_ ?_); (· first | assumption | (with_reducible assumption)); (conv => whnf))
    | (refine hX _ _ _ _ _ _ ?_; (conv => whnf); fail_if_success show False)
    | (rw [c_si]; (conv => whnf))
    | (refine ⟨_, rfl, ?_⟩; (conv => whnf))
    | (refine ⟨_, _, rfl, ?_⟩; (conv => whnf))
    | (refine ⟨_, _, _, rfl, ?_⟩; (conv => whnf))
    | (refine ⟨_, _, _, _, rfl, ?_⟩; (conv => whnf))
    | (refine ⟨a,rfl,hok,?_⟩; (conv => whnf))
    | (rw [c_tl h5]; (conv => whnf))
    | (rw [c_t7 h5]; (conv => whnf))
    | (rw [c_tf h5 (by decide)]; (conv => whnf))
    | (rw [c_t0 h5]; (conv => whnf))
    | (rw [c_t1 h5]; (conv => whnf))
    | (rw [c_t2 h5]; (conv => whnf))
    | (rw [c_t3 h5]; (conv => whnf))
    | (rw [c_t4 h5]; (conv => whnf))
    | (rw [c_t5 h5]; (conv => whnf))
    | (refine And.intro ⟨_, c_tl h5⟩ ?_; (conv => whnf))
    | fail)
  refine ⟨fun e => ?_, fun e x hx => ?_⟩
  · obtain ⟨h, hh, rfl⟩ := t_in_of (by omega) e
    have f : g_isH (cG P I L) (nI h) = true := e
    (conv => whnf)
    repeat' (first
      | ((with_reducible refine @And.intro (vp_in _ _) _ ?_ ?_); (· (first | with_reducible assumption | ((with_reducible refine t_vin ?_); decide) | ((with_reducible refine vp_in_nI ?_ ?_) <;> first | omega | decide) | (simp (disch := omega) only [xl_n, xl_m, nI_dec, nI_sb, nI_add, pk_mul]; (with_reducible refine vp_in_nI ?_ ?_) <;> first | omega | decide))); (conv => whnf))
      | (refine And.intro (by first | with_reducible assumption | exact (show cL _ _ = _ from rfl) | decide) ?_; (conv => whnf))
      | ((with_reducible refine @And.intro (_ = _) _ ?_ ?_); (· rfl); (conv => whnf))
      | ((with_reducible refine @And.intro (@LE.le Nat _ _ _) _ ?_ ?_); (· (first | exact Nat.zero_le _ | exact Nat.le_of_ble_eq_true rfl | omega)); (conv => whnf))
      | ((with_reducible refine @And.intro (@LT.lt Nat _ _ _) _ ?_ ?_); (· omega); (conv => whnf))
      | ((with_reducible refine @And.intro (∃ _, _ = _) _ ?_ ?_); (· exact ⟨_, rfl⟩); (conv => whnf))
      | ((with_reducible refine @And.intro (_ ∨ _) _ ?_ ?_); (· (first | exact Or.inl rfl | exact Or.inr rfl | exact t_b01 _ | assumption)); (conv => whnf))
      | ((with_reducible refine @And.intro (¬ (_ = _)) _ ?_ ?_); (· first | assumption | (with_reducible assumption)); (conv => whnf))
      | (refine hX _ _ _ _ _ _ ?_; (conv => whnf); fail_if_success show False)
      | (rw [c_si]; (conv => whnf))
      | (refine ⟨_, rfl, ?_⟩; (conv => whnf))
      | (refine ⟨_, _, rfl, ?_⟩; (conv => whnf))
      | (refine ⟨_, _, _, rfl, ?_⟩; (conv => whnf))
      | (refine ⟨_, _, _, _, rfl, ?_⟩; (conv => whnf))
      | (refine ⟨b,rfl,hok,?_⟩; (conv => whnf))
      | (rw [c_tl h5]; (conv => whnf))
      | (rw [c_t7 h5]; (conv => whnf))
      | (rw [c_tf h5 (by decide)]; (conv => whnf))
      | (rw [c_t0 h5]; (conv => whnf))
      | (rw [c_t1 h5]; (conv => whnf))
      | (rw [c_t2 h5]; (conv => whnf))
      | (rw [c_t3 h5]; (conv => whnf))
      | (rw [c_t4 h5]; (conv => whnf))
      | (rw [c_t5 h5]; (conv => whnf))
      | (refine And.intro ⟨_, c_tl h5⟩ ?_; (conv => whnf))
      | fail)
    refine ⟨fun e2 => ?_, fun e2 x hx => ?_⟩
    · obtain ⟨p, hp, rfl⟩ := t_in_of (by omega) e2
      have f2 : g_isP (cG P I L) (nI p) = true := e2
      have hp8 : p < 8 := by omega
      rw [q_when, f, f2, Bool.and_self, g_ck_t, nI_clamp (by omega), nI_clamp (by omega)] at hQ
      have loop : ∀ k, k ≤ 60 → ∀ J, c_sc 7 I J → c_ts P Z J 7 L → J 7 6 = nI (y + k) → g_until (cK I L) (fun T => t_has (gw T p) h) (60 - k) (cA J 7) = g_until (cK I L) (fun T => t_has (gw T p) h) 60 (cA I 5) → X 25 [some (.ref 0), some (.int (nI h)), some (.int (nI p)), some (.ref 7), some (.int (nI k))] [] (cW P Z J) 0 0 := by
        refine t_for fun k h1 ih J hJ tJ yJ uJ => ?_
        have ih := fun q => ih (k + 1) (by omega) q
        refine hG _ _ _ _ _ _ ?_
        (conv => whnf)
        repeat' (first
          | ((with_reducible refine @And.intro (vp_in _ _) _ ?_ ?_); (· (first | with_reducible assumption | ((with_reducible refine t_vin ?_); decide) | ((with_reducible refine vp_in_nI ?_ ?_) <;> first | omega | decide) | (simp (disch := omega) only [xl_n, xl_m, nI_dec, nI_sb, nI_add, pk_mul]; (with_reducible refine vp_in_nI ?_ ?_) <;> first | omega | decide))); (conv => whnf))
          | (refine And.intro (by first | with_reducible assumption | exact (show cL _ _ = _ from rfl) | decide) ?_; (conv => whnf))
          | ((with_reducible refine @And.intro (_ = _) _ ?_ ?_); (· rfl); (conv => whnf))
          | ((with_reducible refine @And.intro (@LE.le Nat _ _ _) _ ?_ ?_); (· (first | exact Nat.zero_le _ | exact Nat.le_of_ble_eq_true rfl | omega)); (conv => whnf))
          | ((with_reducible refine @And.intro (@LT.lt Nat _ _ _) _ ?_ ?_); (· omega); (conv => whnf))
          | ((with_reducible refine @And.intro (∃ _, _ = _) _ ?_ ?_); (· exact ⟨_, rfl⟩); (conv => whnf))
          | ((with_reducible refine @And.intro (_ ∨ _) _ ?_ ?_); (· (first | exact Or.inl rfl | exact Or.inr rfl | exact t_b01 _ | assumption)); (conv => whnf))
          | ((with_reducible refine @And.intro (¬ (_ = _)) _ ?_ ?_); (· first | assumption | (with_reducible assumption)); (conv => whnf))
          | (refine hX _ _ _ _ _ _ ?_; (conv => whnf); fail_if_success show False)
          | (rw [c_si]; (conv => whnf))
          | (refine ⟨_, rfl, ?_⟩; (conv => whnf))
          | (refine ⟨_, _, rfl, ?_⟩; (conv => whnf))
          | (refine ⟨_, _, _, rfl, ?_⟩; (conv => whnf))
          | (refine ⟨_, _, _, _, rfl, ?_⟩; (conv => whnf))
          | fail)
        refine And.intro (fun c => ?_) (fun c => ?_) <;> (conv => whnf)
        · have : k = 60 := Nat.le_antisymm h1 (t_kge (a := nI 60) rfl c (by omega) (by omega))
          subst this
          clear ih
          repeat' (first
            | ((with_reducible refine @And.intro (vp_in _ _) _ ?_ ?_); (· (first | with_reducible assumption | ((with_reducible refine t_vin ?_); decide) | ((with_reducible refine vp_in_nI ?_ ?_) <;> first | omega | decide) | (simp (disch := omega) only [xl_n, xl_m, nI_dec, nI_sb, nI_add, pk_mul]; (with_reducible refine vp_in_nI ?_ ?_) <;> first | omega | decide))); (conv => whnf))
            | (refine And.intro (by first | with_reducible assumption | exact (show cL _ _ = _ from rfl) | decide) ?_; (conv => whnf))
            | ((with_reducible refine @And.intro (_ = _) _ ?_ ?_); (· rfl); (conv => whnf))
            | ((with_reducible refine @And.intro (@LE.le Nat _ _ _) _ ?_ ?_); (· (first | exact Nat.zero_le _ | exact Nat.le_of_ble_eq_true rfl | omega)); (conv => whnf))
            | ((with_reducible refine @And.intro (@LT.lt Nat _ _ _) _ ?_ ?_); (· omega); (conv => whnf))
            | ((with_reducible refine @And.intro (∃ _, _ = _) _ ?_ ?_); (· exact ⟨_, rfl⟩); (conv => whnf))
            | ((with_reducible refine @And.intro (_ ∨ _) _ ?_ ?_); (· (first | exact Or.inl rfl | exact Or.inr rfl | exact t_b01 _ | assumption)); (conv => whnf))
            | ((with_reducible refine @And.intro (¬ (_ = _)) _ ?_ ?_); (· first | assumption | (with_reducible assumption)); (conv => whnf))
            | (refine hX _ _ _ _ _ _ ?_; (conv => whnf); fail_if_success show False)
            | (rw [c_si]; (conv => whnf))
            | (refine ⟨_, rfl, ?_⟩; (conv => whnf))
            | (refine ⟨_, _, rfl, ?_⟩; (conv => whnf))
            | (refine ⟨_, _, _, rfl, ?_⟩; (conv => whnf))
            | (refine ⟨_, _, _, _, rfl, ?_⟩; (conv => whnf))
            | (refine And.intro (fun c => ?_) (fun c => ?_) <;> (first | (exact absurd c (by decide +kernel)) | (conv => whnf)))
            | fail)
          refine c_ask hQ hg hJ.sp ?_
          rw [show Int32.ofInt (-1) = nM by decide +kernel]
          exact uJ
        · have hk : k < 60 := t_klt (a := nI 60) rfl c (by omega)
          have hyk : y + k < 100000 := by omega
          have ih := ih (by omega)
          repeat' (first
            | ((with_reducible refine @And.intro (vp_in _ _) _ ?_ ?_); (· (first | with_reducible assumption | ((with_reducible refine t_vin ?_); decide) | ((with_reducible refine vp_in_nI ?_ ?_) <;> first | omega | decide) | (simp (disch := omega) only [xl_n, xl_m, nI_dec, nI_sb, nI_add, pk_mul]; (with_reducible refine vp_in_nI ?_ ?_) <;> first | omega | decide))); (conv => whnf))
            | (refine And.intro (by first | with_reducible assumption | exact (show cL _ _ = _ from rfl) | decide) ?_; (conv => whnf))
            | ((with_reducible refine @And.intro (_ = _) _ ?_ ?_); (· rfl); (conv => whnf))
            | ((with_reducible refine @And.intro (@LE.le Nat _ _ _) _ ?_ ?_); (· (first | exact Nat.zero_le _ | exact Nat.le_of_ble_eq_true rfl | omega)); (conv => whnf))
            | ((with_reducible refine @And.intro (@LT.lt Nat _ _ _) _ ?_ ?_); (· omega); (conv => whnf))
            | ((with_reducible refine @And.intro (∃ _, _ = _) _ ?_ ?_); (· exact ⟨_, rfl⟩); (conv => whnf))
            | ((with_reducible refine @And.intro (_ ∨ _) _ ?_ ?_); (· (first | exact Or.inl rfl | exact Or.inr rfl | exact t_b01 _ | assumption)); (conv => whnf))
            | ((with_reducible refine @And.intro (¬ (_ = _)) _ ?_ ?_); (· first | assumption | (with_reducible assumption)); (conv => whnf))
            | (refine hX _ _ _ _ _ _ ?_; (conv => whnf); fail_if_success show False)
            | (rw [c_si]; (conv => whnf))
            | (refine ⟨_, rfl, ?_⟩; (conv => whnf))
            | (refine ⟨_, _, rfl, ?_⟩; (conv => whnf))
            | (refine ⟨_, _, _, rfl, ?_⟩; (conv => whnf))
            | (refine ⟨_, _, _, _, rfl, ?_⟩; (conv => whnf))
            | (refine ⟨7,L,y+k,rfl,tJ,yJ,hyk,?_⟩; (conv => whnf))
            | (rw [c_tl h7]; (conv => whnf))
            | (rw [c_t7 h7]; (conv => whnf))
            | (rw [c_tf h7 (by decide)]; (conv => whnf))
            | (rw [c_t0 h7]; (conv => whnf))
            | (rw [c_t1 h7]; (conv => whnf))
            | (rw [c_t2 h7]; (conv => whnf))
            | (rw [c_t3 h7]; (conv => whnf))
            | (rw [c_t4 h7]; (conv => whnf))
            | (rw [c_t5 h7]; (conv => whnf))
            | (refine And.intro ⟨_, c_tl h7⟩ ?_; (conv => whnf))
            | (refine And.intro (fun c => ?_) (fun c => ?_) <;> (first | (exact absurd c (by decide +kernel)) | (conv => whnf)))
            | fail)
          intro K hK tK eK
          (conv => whnf)
          have eK : cA K 7 = g_goes (cK I L) (cA J 7) := by rw [eK, hJ.K h7]
          rw [show 60 - k = (60 - (k + 1)) + 1 by omega, g_until_s, ← eK] at uJ
          have yK : K 7 6 = nI (y + (k + 1)) := by
            rw [← cA_gy (I := K) (r := 7), eK, gy_goes, cA_gy, yJ, nI_add]
            rfl
          have eh : t_has (K (10 * 7 + 1) p) h = t_has (gw (cA K 7) p) h := by rw [cA_gw (by omega)]
          have x49 : t_has (gw (cA K 7) p) h = false → X 49 [some (.ref 0), some (.int (nI h)), some (.int (nI p)), some (.ref 7), some (.int (nI k))] [] (cW P Z K) 0 0 := fun q => by
            rw [if_neg (by rw [q]; decide)] at uJ
            have := ih K (hJ.tr hK) tK yK uJ
            clear ih
            refine hG _ _ _ _ _ _ ?_
            (conv => whnf)
            repeat' (first
              | ((with_reducible refine @And.intro (vp_in _ _) _ ?_ ?_); (· (first | with_reducible assumption | ((with_reducible refine t_vin ?_); decide) | ((with_reducible refine vp_in_nI ?_ ?_) <;> first | omega | decide) | (simp (disch := omega) only [xl_n, xl_m, nI_dec, nI_sb, nI_add, pk_mul]; (with_reducible refine vp_in_nI ?_ ?_) <;> first | omega | decide))); (conv => whnf))
              | (refine And.intro (by first | with_reducible assumption | exact (show cL _ _ = _ from rfl) | decide) ?_; (conv => whnf))
              | ((with_reducible refine @And.intro (_ = _) _ ?_ ?_); (· rfl); (conv => whnf))
              | ((with_reducible refine @And.intro (@LE.le Nat _ _ _) _ ?_ ?_); (· (first | exact Nat.zero_le _ | exact Nat.le_of_ble_eq_true rfl | omega)); (conv => whnf))
              | ((with_reducible refine @And.intro (@LT.lt Nat _ _ _) _ ?_ ?_); (· omega); (conv => whnf))
              | ((with_reducible refine @And.intro (∃ _, _ = _) _ ?_ ?_); (· exact ⟨_, rfl⟩); (conv => whnf))
              | ((with_reducible refine @And.intro (_ ∨ _) _ ?_ ?_); (· (first | exact Or.inl rfl | exact Or.inr rfl | exact t_b01 _ | assumption)); (conv => whnf))
              | ((with_reducible refine @And.intro (¬ (_ = _)) _ ?_ ?_); (· first | assumption | (with_reducible assumption)); (conv => whnf))
              | (refine hX _ _ _ _ _ _ ?_; (conv => whnf); fail_if_success show False)
              | (rw [c_si]; (conv => whnf))
              | (refine ⟨_, rfl, ?_⟩; (conv => whnf))
              | (refine ⟨_, _, rfl, ?_⟩; (conv => whnf))
              | (refine ⟨_, _, _, rfl, ?_⟩; (conv => whnf))
              | (refine ⟨_, _, _, _, rfl, ?_⟩; (conv => whnf))
              | (refine And.intro (fun c => ?_) (fun c => ?_) <;> (first | (exact absurd c (by decide +kernel)) | (conv => whnf)))
              | fail)
            clear hX hG
            simp (disch := omega) only [xl_n, xl_m, nI_dec, nI_sb, xl_0, xl_1, cW_i, Nat.add_zero, Nat.reduceAdd, Nat.reduceMul, t_bn0, t_bn1, Classical.not_not, t_lt, nI_add, nI_1, pk_mul, nI_clamp, c_si, nI_eq, nI_leI, nM_ne, nM_ne, xm_set] at *
            exact this
          clear ih
          repeat' (first
            | ((with_reducible refine @And.intro (vp_in _ _) _ ?_ ?_); (· (first | with_reducible assumption | ((with_reducible refine t_vin ?_); decide) | ((with_reducible refine vp_in_nI ?_ ?_) <;> first | omega | decide) | (simp (disch := omega) only [xl_n, xl_m, nI_dec, nI_sb, nI_add, pk_mul]; (with_reducible refine vp_in_nI ?_ ?_) <;> first | omega | decide))); (conv => whnf))
            | (refine And.intro (by first | with_reducible assumption | exact (show cL _ _ = _ from rfl) | decide) ?_; (conv => whnf))
            | ((with_reducible refine @And.intro (_ = _) _ ?_ ?_); (· rfl); (conv => whnf))
            | ((with_reducible refine @And.intro (@LE.le Nat _ _ _) _ ?_ ?_); (· (first | exact Nat.zero_le _ | exact Nat.le_of_ble_eq_true rfl | omega)); (conv => whnf))
            | ((with_reducible refine @And.intro (@LT.lt Nat _ _ _) _ ?_ ?_); (· omega); (conv => whnf))
            | ((with_reducible refine @And.intro (∃ _, _ = _) _ ?_ ?_); (· exact ⟨_, rfl⟩); (conv => whnf))
            | ((with_reducible refine @And.intro (_ ∨ _) _ ?_ ?_); (· (first | exact Or.inl rfl | exact Or.inr rfl | exact t_b01 _ | assumption)); (conv => whnf))
            | ((with_reducible refine @And.intro (¬ (_ = _)) _ ?_ ?_); (· first | assumption | (with_reducible assumption)); (conv => whnf))
            | (refine hX _ _ _ _ _ _ ?_; (conv => whnf); fail_if_success show False)
            | (rw [c_si]; (conv => whnf))
            | (refine ⟨_, rfl, ?_⟩; (conv => whnf))
            | (refine ⟨_, _, rfl, ?_⟩; (conv => whnf))
            | (refine ⟨_, _, _, rfl, ?_⟩; (conv => whnf))
            | (refine ⟨_, _, _, _, rfl, ?_⟩; (conv => whnf))
            | (refine ⟨7,p,h,rfl,h7,hp8,?_⟩; (conv => whnf))
            | (rw [eh]; (conv => whnf))
            | (rw [c_tl h7]; (conv => whnf))
            | (rw [c_t7 h7]; (conv => whnf))
            | (rw [c_tf h7 (by decide)]; (conv => whnf))
            | (rw [c_t0 h7]; (conv => whnf))
            | (rw [c_t1 h7]; (conv => whnf))
            | (rw [c_t2 h7]; (conv => whnf))
            | (rw [c_t3 h7]; (conv => whnf))
            | (rw [c_t4 h7]; (conv => whnf))
            | (rw [c_t5 h7]; (conv => whnf))
            | (refine And.intro ⟨_, c_tl h7⟩ ?_; (conv => whnf))
            | (refine And.intro (fun c => ?_) (fun c => ?_) <;> (first | (exact absurd c (by decide +kernel)) | (conv => whnf)))
            | fail)
          · exact x49 ((t_b0 _).mp c)
          · have q : t_has (gw (cA K 7) p) h = true := by
              cases x1 : t_has (gw (cA K 7) p) h with
              | false => exact absurd ((t_b0 _).mpr x1) c
              | true => rfl
            rw [if_pos q] at uJ
            exact c_ask hQ hg (hJ.tr hK).sp uJ
      (conv => whnf)
      repeat' (first
        | ((with_reducible refine @And.intro (vp_in _ _) _ ?_ ?_); (· (first | with_reducible assumption | ((with_reducible refine t_vin ?_); decide) | ((with_reducible refine vp_in_nI ?_ ?_) <;> first | omega | decide) | (simp (disch := omega) only [xl_n, xl_m, nI_dec, nI_sb, nI_add, pk_mul]; (with_reducible refine vp_in_nI ?_ ?_) <;> first | omega | decide))); (conv => whnf))
        | (refine And.intro (by first | with_reducible assumption | exact (show cL _ _ = _ from rfl) | decide) ?_; (conv => whnf))
        | ((with_reducible refine @And.intro (_ = _) _ ?_ ?_); (· rfl); (conv => whnf))
        | ((with_reducible refine @And.intro (@LE.le Nat _ _ _) _ ?_ ?_); (· (first | exact Nat.zero_le _ | exact Nat.le_of_ble_eq_true rfl | omega)); (conv => whnf))
        | ((with_reducible refine @And.intro (@LT.lt Nat _ _ _) _ ?_ ?_); (· omega); (conv => whnf))
        | ((with_reducible refine @And.intro (∃ _, _ = _) _ ?_ ?_); (· exact ⟨_, rfl⟩); (conv => whnf))
        | ((with_reducible refine @And.intro (_ ∨ _) _ ?_ ?_); (· (first | exact Or.inl rfl | exact Or.inr rfl | exact t_b01 _ | assumption)); (conv => whnf))
        | ((with_reducible refine @And.intro (¬ (_ = _)) _ ?_ ?_); (· first | assumption | (with_reducible assumption)); (conv => whnf))
        | (refine hX _ _ _ _ _ _ ?_; (conv => whnf); fail_if_success show False)
        | (rw [c_si]; (conv => whnf))
        | (refine ⟨_, rfl, ?_⟩; (conv => whnf))
        | (refine ⟨_, _, rfl, ?_⟩; (conv => whnf))
        | (refine ⟨_, _, _, rfl, ?_⟩; (conv => whnf))
        | (refine ⟨_, _, _, _, rfl, ?_⟩; (conv => whnf))
        | (refine ⟨7,5,L,rfl,h7,ht,?_⟩; (conv => whnf))
        | (rw [c_tl h5]; (conv => whnf))
        | (rw [c_t7 h5]; (conv => whnf))
        | (rw [c_tf h5 (by decide)]; (conv => whnf))
        | (rw [c_t0 h5]; (conv => whnf))
        | (rw [c_t1 h5]; (conv => whnf))
        | (rw [c_t2 h5]; (conv => whnf))
        | (rw [c_t3 h5]; (conv => whnf))
        | (rw [c_t4 h5]; (conv => whnf))
        | (rw [c_t5 h5]; (conv => whnf))
        | (refine And.intro ⟨_, c_tl h5⟩ ?_; (conv => whnf))
        | (rw [c_tl h7]; (conv => whnf))
        | (rw [c_t7 h7]; (conv => whnf))
        | (rw [c_tf h7 (by decide)]; (conv => whnf))
        | (rw [c_t0 h7]; (conv => whnf))
        | (rw [c_t1 h7]; (conv => whnf))
        | (rw [c_t2 h7]; (conv => whnf))
        | (rw [c_t3 h7]; (conv => whnf))
        | (rw [c_t4 h7]; (conv => whnf))
        | (rw [c_t5 h7]; (conv => whnf))
        | (refine And.intro ⟨_, c_tl h7⟩ ?_; (conv => whnf))
        | (refine And.intro (fun c => ?_) (fun c => ?_) <;> (first | (exact absurd c (by decide +kernel)) | (conv => whnf)))
        | fail)
      intro J hJ tJ eJ
      (conv => whnf)
      have yJ : J 7 6 = nI (y + 0) := by
        rw [← cA_gy (I := J) (r := 7), eJ]
        exact ey
      have fin := loop 0 (by omega) J hJ tJ yJ (by rw [eJ])
      clear loop
      repeat' (first
        | ((with_reducible refine @And.intro (vp_in _ _) _ ?_ ?_); (· (first | with_reducible assumption | ((with_reducible refine t_vin ?_); decide) | ((with_reducible refine vp_in_nI ?_ ?_) <;> first | omega | decide) | (simp (disch := omega) only [xl_n, xl_m, nI_dec, nI_sb, nI_add, pk_mul]; (with_reducible refine vp_in_nI ?_ ?_) <;> first | omega | decide))); (conv => whnf))
        | (refine And.intro (by first | with_reducible assumption | exact (show cL _ _ = _ from rfl) | decide) ?_; (conv => whnf))
        | ((with_reducible refine @And.intro (_ = _) _ ?_ ?_); (· rfl); (conv => whnf))
        | ((with_reducible refine @And.intro (@LE.le Nat _ _ _) _ ?_ ?_); (· (first | exact Nat.zero_le _ | exact Nat.le_of_ble_eq_true rfl | omega)); (conv => whnf))
        | ((with_reducible refine @And.intro (@LT.lt Nat _ _ _) _ ?_ ?_); (· omega); (conv => whnf))
        | ((with_reducible refine @And.intro (∃ _, _ = _) _ ?_ ?_); (· exact ⟨_, rfl⟩); (conv => whnf))
        | ((with_reducible refine @And.intro (_ ∨ _) _ ?_ ?_); (· (first | exact Or.inl rfl | exact Or.inr rfl | exact t_b01 _ | assumption)); (conv => whnf))
        | ((with_reducible refine @And.intro (¬ (_ = _)) _ ?_ ?_); (· first | assumption | (with_reducible assumption)); (conv => whnf))
        | (refine hX _ _ _ _ _ _ ?_; (conv => whnf); fail_if_success show False)
        | (rw [c_si]; (conv => whnf))
        | (refine ⟨_, rfl, ?_⟩; (conv => whnf))
        | (refine ⟨_, _, rfl, ?_⟩; (conv => whnf))
        | (refine ⟨_, _, _, rfl, ?_⟩; (conv => whnf))
        | (refine ⟨_, _, _, _, rfl, ?_⟩; (conv => whnf))
        | (refine And.intro (fun c => ?_) (fun c => ?_) <;> (first | (exact absurd c (by decide +kernel)) | (conv => whnf)))
        | fail)
      clear hX hG hQ
      simp (disch := omega) only [xl_n, xl_m, nI_dec, nI_sb, xl_0, xl_1, cW_i, Nat.add_zero, Nat.reduceAdd, Nat.reduceMul, t_bn0, t_bn1, Classical.not_not, t_lt, nI_add, nI_1, pk_mul, nI_clamp, c_si, nI_eq, nI_leI, nM_ne, nM_ne, xm_set, xm_lv0, xm_psh] at *
      exact fin
    · exact c_ref0 hQ hg (by rw [f]; exact e2) hx n1_0
  · exact c_ref0 hQ hg (by rw [show g_isH (cG P I L) a = false from e]; rfl) hx n1_0
theorem ct_X1_when : xm_Ct cI yX1_when (ws_ yX1_when cX1_when 5 (some .int)) 164 2 12 S_X1_when := xm_enter (rt := 0) (init := false) (by decide +kernel) rfl (fun h => by cases h) (Or.inl ⟨rfl, rfl⟩) (oX1_when) body_X1_when
theorem cv_X1_when {own : String} {cc : ByteArray} {fr pc idx : Nat} (hdg : decode cc pc = .ok (.invokevirtual idx, 3)) (hl : xm_ml own idx yX1_when) (hfr : 164 < fr) : xm_CallOK cI own cc fr pc (pc + 3) 3 2 12 (xm_this 0 S_X1_when) := xm_callV 0 cI_good (ct_X1_when) hdg hl q1690 q1691 q116 q1692 rfl rfl (by decide +kernel) hfr (by decide)
abbrev bX1_fades_0 : List xE := [(.aload_n 0, 1, 0, 0, 0), (.iload_n 1, 2, 0, 0, 0), (.invokevirtual 238, 5, 0, 0, 9), (.aload_n 0, 6, 0, 0, 0), (.getfield 58, 9, 0, 5, 1), (.getfield 198, 12, 7, 3, 1), (.iload_n 1, 13, 0, 0, 0), (.iaload, 14, 0, 0, 0), (.ifCond .ne 5, 17, 0, 19, 0), (.iconst 0, 18, 0, 0, 0), (.ireturn, 19, 0, 0, 0)]
abbrev bX1_fades_19 : List xE := [(.aload_n 0, 20, 0, 0, 0), (.getfield 65, 23, 0, 7, 1), (.aload_n 0, 24, 0, 0, 0), (.getfield 58, 27, 0, 5, 1), (.invokevirtual 110, 30, 0, 1, 9), (.astore_n 2, 31, 0, 0, 0), (.iconst 0, 32, 0, 0, 0), (.istore_n 3, 33, 0, 0, 0)]
abbrev bX1_fades_33 : List xE := [(.iload_n 3, 34, 0, 0, 0), (.bipush 60, 36, 0, 0, 0), (.if_icmp .ge 26, 39, 0, 62, 0), (.aload_n 2, 40, 0, 0, 0), (.invokevirtual 301, 43, 0, 2, 9), (.getfield 198, 46, 7, 3, 1), (.iload_n 1, 47, 0, 0, 0), (.iaload, 48, 0, 0, 0), (.ifCond .ne 8, 51, 0, 56, 0), (.aload_n 2, 52, 0, 0, 0), (.getfield 201, 55, 7, 6, 0), (.ireturn, 56, 0, 0, 0)]
abbrev bX1_fades_56 : List xE := [(.iinc 3 1, 59, 0, 0, 0), (.goto (-26), 62, 0, 33, 0)]
abbrev bX1_fades_62 : List xE := [(.iconst (-1), 63, 0, 0, 0), (.ireturn, 64, 0, 0, 0)]
abbrev kX1_fades : List (Nat × List xE) := [(0, bX1_fades_0), (19, bX1_fades_19), (33, bX1_fades_33), (56, bX1_fades_56), (62, bX1_fades_62)]
abbrev lX1_fades : List (Nat × Nat × Nat × xS) := [(2, 1, 6, xm_this 0 S_X1_needPuppet), (2, 0, 0, xm_this 7 S_X10_becomes), (1, 0, 0, xm_this 7 S_X10_goes)]
theorem oX1_fades_0  : xm_okb cI RX1 cX1_fades false 164 lX1_fades bX1_fades_0 0 := xo_0 dX1_fades_0 rfl trivial (xo_0 dX1_fades_1 rfl trivial (xo_c rfl (cv_X1_needPuppet dX1_fades_2 (Or.inl q1607) (by decide)) (xo_0 dX1_fades_5 rfl trivial (xo_1 dX1_fades_6 rfl (xm_fg_of (Or.inl q724) (by decide) rfl (by decide) rfl rfl (Or.inl rfl) rfl) (xo_1 dX1_fades_9 rfl (xm_fg_of (Or.inr ⟨_, q669⟩) (by decide) rfl (by decide) rfl rfl (Or.inl rfl) rfl) (xo_0 dX1_fades_12 rfl trivial (xo_0 dX1_fades_13 rfl trivial (xo_0 dX1_fades_14 rfl rfl (xo_0 dX1_fades_17 rfl trivial (xo_0 dX1_fades_18 rfl trivial (xo_n)))))))))))
theorem oX1_fades_19  : xm_okb cI RX1 cX1_fades false 164 lX1_fades bX1_fades_19 19 := xo_0 dX1_fades_19 rfl trivial (xo_1 dX1_fades_20 rfl (xm_fg_of (Or.inl q726) (by decide) rfl (by decide) rfl rfl (Or.inl rfl) rfl) (xo_0 dX1_fades_23 rfl trivial (xo_1 dX1_fades_24 rfl (xm_fg_of (Or.inl q724) (by decide) rfl (by decide) rfl rfl (Or.inl rfl) rfl) (xo_c rfl (cv_X10_becomes dX1_fades_27 (Or.inl q711) (by decide)) (xo_0 dX1_fades_30 rfl trivial (xo_0 dX1_fades_31 rfl trivial (xo_0 dX1_fades_32 rfl trivial (xo_n))))))))
theorem oX1_fades_33  : xm_okb cI RX1 cX1_fades false 164 lX1_fades bX1_fades_33 33 := xo_0 dX1_fades_33 rfl trivial (xo_0 dX1_fades_34 rfl (xo_bipush (by decide +kernel)) (xo_0 dX1_fades_36 rfl rfl (xo_0 dX1_fades_39 rfl trivial (xo_c rfl (cv_X10_goes dX1_fades_40 (Or.inl q872) (by decide)) (xo_1 dX1_fades_43 rfl (xm_fg_of (Or.inr ⟨_, q669⟩) (by decide) rfl (by decide) rfl rfl (Or.inl rfl) rfl) (xo_0 dX1_fades_46 rfl trivial (xo_0 dX1_fades_47 rfl trivial (xo_0 dX1_fades_48 rfl rfl (xo_0 dX1_fades_51 rfl trivial (xo_0 dX1_fades_52 rfl (xm_fg_of (Or.inr ⟨_, q675⟩) (by decide) rfl (by decide) rfl rfl (Or.inl rfl) rfl) (xo_0 dX1_fades_55 rfl trivial (xo_n))))))))))))
theorem oX1_fades_56  : xm_okb cI RX1 cX1_fades false 164 lX1_fades bX1_fades_56 56 := xo_0 dX1_fades_56 rfl trivial (xo_0 dX1_fades_59 rfl rfl (xo_n))
theorem oX1_fades_62  : xm_okb cI RX1 cX1_fades false 164 lX1_fades bX1_fades_62 62 := xo_0 dX1_fades_62 rfl trivial (xo_0 dX1_fades_63 rfl trivial (xo_n))
theorem oX1_fades  : ∀ q ∈ kX1_fades, xm_okb cI RX1 cX1_fades false 164 lX1_fades q.2 q.1 := by
  intro q hq
  simp only [List.mem_cons, List.not_mem_nil, or_false] at hq
  rcases hq with rfl | rfl | rfl | rfl | rfl
  · exact oX1_fades_0  
  · exact oX1_fades_19  
  · exact oX1_fades_33  
  · exact oX1_fades_56  
  · exact oX1_fades_62  
def S_X1_fades : xS := cU fun as P Z I Q QX => ∃ a L, as = [.ref 0, .int a] ∧ c_good P Z I L ∧ g_ok (cG P I L) ∧ c_P P Z L (cG P I L) Q QX (q_fades (cG P I L) a)
theorem body_X1_fades : xm_Body 4 0 1 6 [] lX1_fades kX1_fades S_X1_fades := by
  intro X avs w Q QX hX0 hS
  have hG := xm_go [] hX0
  have hX := xm_go [33, 56] hX0
  clear hX0
  obtain ⟨P, Z, I, rfl, a, L, rfl, hg, hk0, hQ⟩ := hS
  have hok := hg.ok
  obtain ⟨hn, h9, hm, h8⟩ := id hok
  have h5 := c_5 (P := P)
  have h7 := c_7 (P := P)
  have ht := hg.now
  obtain ⟨y, hy, ey⟩ := hk0.now.1
  refine ⟨rfl, ?_⟩
  repeat' (first
    | ((with_reducible refine @And.intro (vp_in _ _) _ ?_ ?_); (· (first | with_reducible assumption | ((with_reducible refine t_vin ?_); decide) | ((with_reducible refine vp_in_nI ?_ ?_) <;> first | omega | decide) | (simp (disch := omega) only [xl_n, xl_m, nI_dec, nI_sb, nI_add, pk_mul]; (with_reducible refine vp_in_nI ?_ ?_) <;> first | omega | decide))); (conv => whnf))
    | (refine And.intro (by first | with_reducible assumption | exact (show cL _ _ = _ from rfl) | decide) ?_; (conv => whnf))
    | ((with_reducible refine @And.intro (_ = _) _ ?_ ?_); (· rfl); (conv => whnf))
    | ((with_reducible refine @And.intro (@LE.le Nat _ _ _) _ ?_ ?_); (· (first | exact Nat.zero_le _ | exact Nat.le_of_ble_eq_true rfl | omega)); (conv => whnf))
    | ((with_reducible refine @And.intro (@LT.lt Nat _ _ _) _ ?_ ?_); (· omega); (conv => whnf))
    | ((with_reducible refine @And.intro (∃ _, _ = _) _ ?_ ?_); (· exact ⟨_, rfl⟩); (conv => whnf))
    | ((with_reducible refine @And.intro (_ ∨ _) _ ?_ ?_); (· (first | exact Or.inl rfl | exact Or.inr rfl | exact t_b01 _ | assumption)); (conv => whnf))
    | ((with_reducible refine @And.intro (¬ (_ = _)) _ ?_ ?_); (· first | assumption | (with_reducible assumption)); (conv => whnf))
    | (refine hX _ _ _ _ _ _ ?_; (conv => whnf); fail_if_success show False)
    | (rw [c_si]; (conv => whnf))
    | (refine ⟨_, rfl, ?_⟩; (conv => whnf))
    | (refine ⟨_, _, rfl, ?_⟩; (conv => whnf))
    | (refine ⟨_, _, _, rfl, ?_⟩; (conv => whnf))
    | (refine ⟨_, _, _, _, rfl, ?_⟩; (conv => whnf))
    | (refine ⟨a,rfl,hok,?_⟩; (conv => whnf))
    | (rw [c_tl h5]; (conv => whnf))
    | (rw [c_t7 h5]; (conv => whnf))
    | (rw [c_tf h5 (by decide)]; (conv => whnf))
    | (rw [c_t0 h5]; (conv => whnf))
    | (rw [c_t1 h5]; (conv => whnf))
    | (rw [c_t2 h5]; (conv => whnf))
    | (rw [c_t3 h5]; (conv => whnf))
    | (rw [c_t4 h5]; (conv => whnf))
    | (rw [c_t5 h5]; (conv => whnf))
    | (refine And.intro ⟨_, c_tl h5⟩ ?_; (conv => whnf))
    | fail)
  refine ⟨fun e => ?_, fun e x hx => ?_⟩
  · obtain ⟨p, hp, rfl⟩ := t_in_of (by omega) e
    have f : g_isP (cG P I L) (nI p) = true := e
    have ek : (nI p).toNatClampNeg = p := nI_clamp (by omega)
    have e5 : gs (gnow (cG P I L)) p = I 53 p := cA_gs (by omega)
    rw [q_fades, f, g_ck_t, ek, e5] at hQ
    have loop : ¬ I 53 p = nI 0 → ∀ k, k ≤ 60 → ∀ J, c_sc 7 I J → c_ts P Z J 7 L → J 7 6 = nI (y + k) → g_until (cK I L) (fun T => decide (gs T p = nI 0)) (60 - k) (cA J 7) = g_until (cK I L) (fun T => decide (gs T p = nI 0)) 60 (cA I 5) → X 33 [some (.ref 0), some (.int (nI p)), some (.ref 7), some (.int (nI k))] [] (cW P Z J) 0 0 := by
      intro hne
      rw [if_neg hne] at hQ
      refine t_for fun k h1 ih J hJ tJ yJ uJ => ?_
      have ih := fun q => ih (k + 1) (by omega) q
      refine hG _ _ _ _ _ _ ?_
      (conv => whnf)
      repeat' (first
        | ((with_reducible refine @And.intro (vp_in _ _) _ ?_ ?_); (· (first | with_reducible assumption | ((with_reducible refine t_vin ?_); decide) | ((with_reducible refine vp_in_nI ?_ ?_) <;> first | omega | decide) | (simp (disch := omega) only [xl_n, xl_m, nI_dec, nI_sb, nI_add, pk_mul]; (with_reducible refine vp_in_nI ?_ ?_) <;> first | omega | decide))); (conv => whnf))
        | (refine And.intro (by first | with_reducible assumption | exact (show cL _ _ = _ from rfl) | decide) ?_; (conv => whnf))
        | ((with_reducible refine @And.intro (_ = _) _ ?_ ?_); (· rfl); (conv => whnf))
        | ((with_reducible refine @And.intro (@LE.le Nat _ _ _) _ ?_ ?_); (· (first | exact Nat.zero_le _ | exact Nat.le_of_ble_eq_true rfl | omega)); (conv => whnf))
        | ((with_reducible refine @And.intro (@LT.lt Nat _ _ _) _ ?_ ?_); (· omega); (conv => whnf))
        | ((with_reducible refine @And.intro (∃ _, _ = _) _ ?_ ?_); (· exact ⟨_, rfl⟩); (conv => whnf))
        | ((with_reducible refine @And.intro (_ ∨ _) _ ?_ ?_); (· (first | exact Or.inl rfl | exact Or.inr rfl | exact t_b01 _ | assumption)); (conv => whnf))
        | ((with_reducible refine @And.intro (¬ (_ = _)) _ ?_ ?_); (· first | assumption | (with_reducible assumption)); (conv => whnf))
        | (refine hX _ _ _ _ _ _ ?_; (conv => whnf); fail_if_success show False)
        | (rw [c_si]; (conv => whnf))
        | (refine ⟨_, rfl, ?_⟩; (conv => whnf))
        | (refine ⟨_, _, rfl, ?_⟩; (conv => whnf))
        | (refine ⟨_, _, _, rfl, ?_⟩; (conv => whnf))
        | (refine ⟨_, _, _, _, rfl, ?_⟩; (conv => whnf))
        | fail)
      refine And.intro (fun c => ?_) (fun c => ?_) <;> (conv => whnf)
      · have : k = 60 := Nat.le_antisymm h1 (t_kge (a := nI 60) rfl c (by omega) (by omega))
        subst this
        clear ih
        repeat' (first
          | ((with_reducible refine @And.intro (vp_in _ _) _ ?_ ?_); (· (first | with_reducible assumption | ((with_reducible refine t_vin ?_); decide) | ((with_reducible refine vp_in_nI ?_ ?_) <;> first | omega | decide) | (simp (disch := omega) only [xl_n, xl_m, nI_dec, nI_sb, nI_add, pk_mul]; (with_reducible refine vp_in_nI ?_ ?_) <;> first | omega | decide))); (conv => whnf))
          | (refine And.intro (by first | with_reducible assumption | exact (show cL _ _ = _ from rfl) | decide) ?_; (conv => whnf))
          | ((with_reducible refine @And.intro (_ = _) _ ?_ ?_); (· rfl); (conv => whnf))
          | ((with_reducible refine @And.intro (@LE.le Nat _ _ _) _ ?_ ?_); (· (first | exact Nat.zero_le _ | exact Nat.le_of_ble_eq_true rfl | omega)); (conv => whnf))
          | ((with_reducible refine @And.intro (@LT.lt Nat _ _ _) _ ?_ ?_); (· omega); (conv => whnf))
          | ((with_reducible refine @And.intro (∃ _, _ = _) _ ?_ ?_); (· exact ⟨_, rfl⟩); (conv => whnf))
          | ((with_reducible refine @And.intro (_ ∨ _) _ ?_ ?_); (· (first | exact Or.inl rfl | exact Or.inr rfl | exact t_b01 _ | assumption)); (conv => whnf))
          | ((with_reducible refine @And.intro (¬ (_ = _)) _ ?_ ?_); (· first | assumption | (with_reducible assumption)); (conv => whnf))
          | (refine hX _ _ _ _ _ _ ?_; (conv => whnf); fail_if_success show False)
          | (rw [c_si]; (conv => whnf))
          | (refine ⟨_, rfl, ?_⟩; (conv => whnf))
          | (refine ⟨_, _, rfl, ?_⟩; (conv => whnf))
          | (refine ⟨_, _, _, rfl, ?_⟩; (conv => whnf))
          | (refine ⟨_, _, _, _, rfl, ?_⟩; (conv => whnf))
          | (refine And.intro (fun c => ?_) (fun c => ?_) <;> (first | (exact absurd c (by decide +kernel)) | (conv => whnf)))
          | fail)
        refine c_ask hQ hg hJ.sp ?_
        rw [show Int32.ofInt (-1) = nM by decide +kernel]
        exact uJ
      · have hk : k < 60 := t_klt (a := nI 60) rfl c (by omega)
        have hyk : y + k < 100000 := by omega
        have ih := ih (by omega)
        repeat' (first
          | ((with_reducible refine @And.intro (vp_in _ _) _ ?_ ?_); (· (first | with_reducible assumption | ((with_reducible refine t_vin ?_); decide) | ((with_reducible refine vp_in_nI ?_ ?_) <;> first | omega | decide) | (simp (disch := omega) only [xl_n, xl_m, nI_dec, nI_sb, nI_add, pk_mul]; (with_reducible refine vp_in_nI ?_ ?_) <;> first | omega | decide))); (conv => whnf))
          | (refine And.intro (by first | with_reducible assumption | exact (show cL _ _ = _ from rfl) | decide) ?_; (conv => whnf))
          | ((with_reducible refine @And.intro (_ = _) _ ?_ ?_); (· rfl); (conv => whnf))
          | ((with_reducible refine @And.intro (@LE.le Nat _ _ _) _ ?_ ?_); (· (first | exact Nat.zero_le _ | exact Nat.le_of_ble_eq_true rfl | omega)); (conv => whnf))
          | ((with_reducible refine @And.intro (@LT.lt Nat _ _ _) _ ?_ ?_); (· omega); (conv => whnf))
          | ((with_reducible refine @And.intro (∃ _, _ = _) _ ?_ ?_); (· exact ⟨_, rfl⟩); (conv => whnf))
          | ((with_reducible refine @And.intro (_ ∨ _) _ ?_ ?_); (· (first | exact Or.inl rfl | exact Or.inr rfl | exact t_b01 _ | assumption)); (conv => whnf))
          | ((with_reducible refine @And.intro (¬ (_ = _)) _ ?_ ?_); (· first | assumption | (with_reducible assumption)); (conv => whnf))
          | (refine hX _ _ _ _ _ _ ?_; (conv => whnf); fail_if_success show False)
          | (rw [c_si]; (conv => whnf))
          | (refine ⟨_, rfl, ?_⟩; (conv => whnf))
          | (refine ⟨_, _, rfl, ?_⟩; (conv => whnf))
          | (refine ⟨_, _, _, rfl, ?_⟩; (conv => whnf))
          | (refine ⟨_, _, _, _, rfl, ?_⟩; (conv => whnf))
          | (refine ⟨7,L,y+k,rfl,tJ,yJ,hyk,?_⟩; (conv => whnf))
          | (rw [c_tl h7]; (conv => whnf))
          | (rw [c_t7 h7]; (conv => whnf))
          | (rw [c_tf h7 (by decide)]; (conv => whnf))
          | (rw [c_t0 h7]; (conv => whnf))
          | (rw [c_t1 h7]; (conv => whnf))
          | (rw [c_t2 h7]; (conv => whnf))
          | (rw [c_t3 h7]; (conv => whnf))
          | (rw [c_t4 h7]; (conv => whnf))
          | (rw [c_t5 h7]; (conv => whnf))
          | (refine And.intro ⟨_, c_tl h7⟩ ?_; (conv => whnf))
          | (refine And.intro (fun c => ?_) (fun c => ?_) <;> (first | (exact absurd c (by decide +kernel)) | (conv => whnf)))
          | fail)
        intro K hK tK eK
        (conv => whnf)
        have eK : cA K 7 = g_goes (cK I L) (cA J 7) := by rw [eK, hJ.K h7]
        have es : gs (cA K 7) p = K 73 p := cA_gs (by omega)
        rw [show 60 - k = (60 - (k + 1)) + 1 by omega, g_until_s, ← eK, es] at uJ
        have yK : K 7 6 = nI (y + (k + 1)) := by
          rw [← cA_gy (I := K) (r := 7), eK, gy_goes, cA_gy, yJ, nI_add]
          rfl
        have x56 : ¬ K 73 p = nI 0 → X 56 [some (.ref 0), some (.int (nI p)), some (.ref 7), some (.int (nI k))] [] (cW P Z K) 0 0 := fun q => by
          rw [if_neg (by simpa using q)] at uJ
          have := ih K (hJ.tr hK) tK yK uJ
          clear ih
          refine hG _ _ _ _ _ _ ?_
          (conv => whnf)
          repeat' (first
            | ((with_reducible refine @And.intro (vp_in _ _) _ ?_ ?_); (· (first | with_reducible assumption | ((with_reducible refine t_vin ?_); decide) | ((with_reducible refine vp_in_nI ?_ ?_) <;> first | omega | decide) | (simp (disch := omega) only [xl_n, xl_m, nI_dec, nI_sb, nI_add, pk_mul]; (with_reducible refine vp_in_nI ?_ ?_) <;> first | omega | decide))); (conv => whnf))
            | (refine And.intro (by first | with_reducible assumption | exact (show cL _ _ = _ from rfl) | decide) ?_; (conv => whnf))
            | ((with_reducible refine @And.intro (_ = _) _ ?_ ?_); (· rfl); (conv => whnf))
            | ((with_reducible refine @And.intro (@LE.le Nat _ _ _) _ ?_ ?_); (· (first | exact Nat.zero_le _ | exact Nat.le_of_ble_eq_true rfl | omega)); (conv => whnf))
            | ((with_reducible refine @And.intro (@LT.lt Nat _ _ _) _ ?_ ?_); (· omega); (conv => whnf))
            | ((with_reducible refine @And.intro (∃ _, _ = _) _ ?_ ?_); (· exact ⟨_, rfl⟩); (conv => whnf))
            | ((with_reducible refine @And.intro (_ ∨ _) _ ?_ ?_); (· (first | exact Or.inl rfl | exact Or.inr rfl | exact t_b01 _ | assumption)); (conv => whnf))
            | ((with_reducible refine @And.intro (¬ (_ = _)) _ ?_ ?_); (· first | assumption | (with_reducible assumption)); (conv => whnf))
            | (refine hX _ _ _ _ _ _ ?_; (conv => whnf); fail_if_success show False)
            | (rw [c_si]; (conv => whnf))
            | (refine ⟨_, rfl, ?_⟩; (conv => whnf))
            | (refine ⟨_, _, rfl, ?_⟩; (conv => whnf))
            | (refine ⟨_, _, _, rfl, ?_⟩; (conv => whnf))
            | (refine ⟨_, _, _, _, rfl, ?_⟩; (conv => whnf))
            | (refine And.intro (fun c => ?_) (fun c => ?_) <;> (first | (exact absurd c (by decide +kernel)) | (conv => whnf)))
            | fail)
          clear hX hG
          simp (disch := omega) only [xl_n, xl_m, nI_dec, nI_sb, xl_0, xl_1, cW_i, Nat.add_zero, Nat.reduceAdd, Nat.reduceMul, t_bn0, t_bn1, Classical.not_not, t_lt, nI_add, nI_1, pk_mul, nI_clamp, c_si, nI_eq, nI_leI, nM_ne, nM_ne, xm_set] at *
          exact this
        clear ih
        repeat' (first
          | ((with_reducible refine @And.intro (vp_in _ _) _ ?_ ?_); (· (first | with_reducible assumption | ((with_reducible refine t_vin ?_); decide) | ((with_reducible refine vp_in_nI ?_ ?_) <;> first | omega | decide) | (simp (disch := omega) only [xl_n, xl_m, nI_dec, nI_sb, nI_add, pk_mul]; (with_reducible refine vp_in_nI ?_ ?_) <;> first | omega | decide))); (conv => whnf))
          | (refine And.intro (by first | with_reducible assumption | exact (show cL _ _ = _ from rfl) | decide) ?_; (conv => whnf))
          | ((with_reducible refine @And.intro (_ = _) _ ?_ ?_); (· rfl); (conv => whnf))
          | ((with_reducible refine @And.intro (@LE.le Nat _ _ _) _ ?_ ?_); (· (first | exact Nat.zero_le _ | exact Nat.le_of_ble_eq_true rfl | omega)); (conv => whnf))
          | ((with_reducible refine @And.intro (@LT.lt Nat _ _ _) _ ?_ ?_); (· omega); (conv => whnf))
          | ((with_reducible refine @And.intro (∃ _, _ = _) _ ?_ ?_); (· exact ⟨_, rfl⟩); (conv => whnf))
          | ((with_reducible refine @And.intro (_ ∨ _) _ ?_ ?_); (· (first | exact Or.inl rfl | exact Or.inr rfl | exact t_b01 _ | assumption)); (conv => whnf))
          | ((with_reducible refine @And.intro (¬ (_ = _)) _ ?_ ?_); (· first | assumption | (with_reducible assumption)); (conv => whnf))
          | (refine hX _ _ _ _ _ _ ?_; (conv => whnf); fail_if_success show False)
          | (rw [c_si]; (conv => whnf))
          | (refine ⟨_, rfl, ?_⟩; (conv => whnf))
          | (refine ⟨_, _, rfl, ?_⟩; (conv => whnf))
          | (refine ⟨_, _, _, rfl, ?_⟩; (conv => whnf))
          | (refine ⟨_, _, _, _, rfl, ?_⟩; (conv => whnf))
          | (rw [c_tl h7]; (conv => whnf))
          | (rw [c_t7 h7]; (conv => whnf))
          | (rw [c_tf h7 (by decide)]; (conv => whnf))
          | (rw [c_t0 h7]; (conv => whnf))
          | (rw [c_t1 h7]; (conv => whnf))
          | (rw [c_t2 h7]; (conv => whnf))
          | (rw [c_t3 h7]; (conv => whnf))
          | (rw [c_t4 h7]; (conv => whnf))
          | (rw [c_t5 h7]; (conv => whnf))
          | (refine And.intro ⟨_, c_tl h7⟩ ?_; (conv => whnf))
          | (refine And.intro (fun c => ?_) (fun c => ?_) <;> (first | (exact absurd c (by decide +kernel)) | (conv => whnf)))
          | fail)
        · have c1 : ¬ K 73 (nI p).toNatClampNeg = nI 0 := c
          rw [ek] at c1
          exact x56 c1
        · have c1 : ¬ ¬ K 73 (nI p).toNatClampNeg = nI 0 := c
          rw [ek, Classical.not_not] at c1
          rw [if_pos (by simpa using c1)] at uJ
          exact c_ask hQ hg (hJ.tr hK).sp uJ
    (conv => whnf)
    repeat' (first
      | ((with_reducible refine @And.intro (vp_in _ _) _ ?_ ?_); (· (first | with_reducible assumption | ((with_reducible refine t_vin ?_); decide) | ((with_reducible refine vp_in_nI ?_ ?_) <;> first | omega | decide) | (simp (disch := omega) only [xl_n, xl_m, nI_dec, nI_sb, nI_add, pk_mul]; (with_reducible refine vp_in_nI ?_ ?_) <;> first | omega | decide))); (conv => whnf))
      | (refine And.intro (by first | with_reducible assumption | exact (show cL _ _ = _ from rfl) | decide) ?_; (conv => whnf))
      | ((with_reducible refine @And.intro (_ = _) _ ?_ ?_); (· rfl); (conv => whnf))
      | ((with_reducible refine @And.intro (@LE.le Nat _ _ _) _ ?_ ?_); (· (first | exact Nat.zero_le _ | exact Nat.le_of_ble_eq_true rfl | omega)); (conv => whnf))
      | ((with_reducible refine @And.intro (@LT.lt Nat _ _ _) _ ?_ ?_); (· omega); (conv => whnf))
      | ((with_reducible refine @And.intro (∃ _, _ = _) _ ?_ ?_); (· exact ⟨_, rfl⟩); (conv => whnf))
      | ((with_reducible refine @And.intro (_ ∨ _) _ ?_ ?_); (· (first | exact Or.inl rfl | exact Or.inr rfl | exact t_b01 _ | assumption)); (conv => whnf))
      | ((with_reducible refine @And.intro (¬ (_ = _)) _ ?_ ?_); (· first | assumption | (with_reducible assumption)); (conv => whnf))
      | (refine hX _ _ _ _ _ _ ?_; (conv => whnf); fail_if_success show False)
      | (rw [c_si]; (conv => whnf))
      | (refine ⟨_, rfl, ?_⟩; (conv => whnf))
      | (refine ⟨_, _, rfl, ?_⟩; (conv => whnf))
      | (refine ⟨_, _, _, rfl, ?_⟩; (conv => whnf))
      | (refine ⟨_, _, _, _, rfl, ?_⟩; (conv => whnf))
      | (refine ⟨7,5,L,rfl,h7,ht,?_⟩; (conv => whnf))
      | (rw [c_tl h5]; (conv => whnf))
      | (rw [c_t7 h5]; (conv => whnf))
      | (rw [c_tf h5 (by decide)]; (conv => whnf))
      | (rw [c_t0 h5]; (conv => whnf))
      | (rw [c_t1 h5]; (conv => whnf))
      | (rw [c_t2 h5]; (conv => whnf))
      | (rw [c_t3 h5]; (conv => whnf))
      | (rw [c_t4 h5]; (conv => whnf))
      | (rw [c_t5 h5]; (conv => whnf))
      | (refine And.intro ⟨_, c_tl h5⟩ ?_; (conv => whnf))
      | (rw [c_tl h7]; (conv => whnf))
      | (rw [c_t7 h7]; (conv => whnf))
      | (rw [c_tf h7 (by decide)]; (conv => whnf))
      | (rw [c_t0 h7]; (conv => whnf))
      | (rw [c_t1 h7]; (conv => whnf))
      | (rw [c_t2 h7]; (conv => whnf))
      | (rw [c_t3 h7]; (conv => whnf))
      | (rw [c_t4 h7]; (conv => whnf))
      | (rw [c_t5 h7]; (conv => whnf))
      | (refine And.intro ⟨_, c_tl h7⟩ ?_; (conv => whnf))
      | (refine And.intro (fun c => ?_) (fun c => ?_) <;> (first | (exact absurd c (by decide +kernel)) | (conv => whnf)))
      | fail)
    · have c1 : ¬ I 53 (nI p).toNatClampNeg = nI 0 := c
      rw [ek] at c1
      have loop := loop c1
      intro J hJ tJ eJ
      (conv => whnf)
      have yJ : J 7 6 = nI (y + 0) := by
        rw [← cA_gy (I := J) (r := 7), eJ]
        exact ey
      have fin := loop 0 (by omega) J hJ tJ yJ (by rw [eJ])
      clear loop
      repeat' (first
        | ((with_reducible refine @And.intro (vp_in _ _) _ ?_ ?_); (· (first | with_reducible assumption | ((with_reducible refine t_vin ?_); decide) | ((with_reducible refine vp_in_nI ?_ ?_) <;> first | omega | decide) | (simp (disch := omega) only [xl_n, xl_m, nI_dec, nI_sb, nI_add, pk_mul]; (with_reducible refine vp_in_nI ?_ ?_) <;> first | omega | decide))); (conv => whnf))
        | (refine And.intro (by first | with_reducible assumption | exact (show cL _ _ = _ from rfl) | decide) ?_; (conv => whnf))
        | ((with_reducible refine @And.intro (_ = _) _ ?_ ?_); (· rfl); (conv => whnf))
        | ((with_reducible refine @And.intro (@LE.le Nat _ _ _) _ ?_ ?_); (· (first | exact Nat.zero_le _ | exact Nat.le_of_ble_eq_true rfl | omega)); (conv => whnf))
        | ((with_reducible refine @And.intro (@LT.lt Nat _ _ _) _ ?_ ?_); (· omega); (conv => whnf))
        | ((with_reducible refine @And.intro (∃ _, _ = _) _ ?_ ?_); (· exact ⟨_, rfl⟩); (conv => whnf))
        | ((with_reducible refine @And.intro (_ ∨ _) _ ?_ ?_); (· (first | exact Or.inl rfl | exact Or.inr rfl | exact t_b01 _ | assumption)); (conv => whnf))
        | ((with_reducible refine @And.intro (¬ (_ = _)) _ ?_ ?_); (· first | assumption | (with_reducible assumption)); (conv => whnf))
        | (refine hX _ _ _ _ _ _ ?_; (conv => whnf); fail_if_success show False)
        | (rw [c_si]; (conv => whnf))
        | (refine ⟨_, rfl, ?_⟩; (conv => whnf))
        | (refine ⟨_, _, rfl, ?_⟩; (conv => whnf))
        | (refine ⟨_, _, _, rfl, ?_⟩; (conv => whnf))
        | (refine ⟨_, _, _, _, rfl, ?_⟩; (conv => whnf))
        | (refine And.intro (fun c => ?_) (fun c => ?_) <;> (first | (exact absurd c (by decide +kernel)) | (conv => whnf)))
        | fail)
      clear hX hG hQ
      simp (disch := omega) only [xl_n, xl_m, nI_dec, nI_sb, xl_0, xl_1, cW_i, Nat.add_zero, Nat.reduceAdd, Nat.reduceMul, t_bn0, t_bn1, Classical.not_not, t_lt, nI_add, nI_1, pk_mul, nI_clamp, c_si, nI_eq, nI_leI, nM_ne, nM_ne, xm_set, xm_lv0, xm_psh] at *
      exact fin
    · have c1 : ¬ ¬ I 53 (nI p).toNatClampNeg = nI 0 := c
      rw [ek, Classical.not_not] at c1
      rw [if_pos c1] at hQ
      exact c_ask hQ hg c_sp.rf (by decide +kernel)
  · exact c_ref0 hQ hg e hx n1_0
theorem ct_X1_fades : xm_Ct cI yX1_fades (ws_ yX1_fades cX1_fades 4 (some .int)) 164 1 6 S_X1_fades := xm_enter (rt := 0) (init := false) (by decide +kernel) rfl (fun h => by cases h) (Or.inl ⟨rfl, rfl⟩) (oX1_fades) body_X1_fades
theorem cv_X1_fades {own : String} {cc : ByteArray} {fr pc idx : Nat} (hdg : decode cc pc = .ok (.invokevirtual idx, 3)) (hl : xm_ml own idx yX1_fades) (hfr : 164 < fr) : xm_CallOK cI own cc fr pc (pc + 3) 2 1 6 (xm_this 0 S_X1_fades) := xm_callV 0 cI_good (ct_X1_fades) hdg hl q1852 q1853 q116 q1854 rfl rfl (by decide +kernel) hfr (by decide)
