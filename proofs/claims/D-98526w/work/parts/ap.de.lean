/-! ===== the component: last, thumbs ===== -/
set_option maxRecDepth 100000
set_option maxHeartbeats 1000000
abbrev bX1_last_0 : List xE := [(.aload_n 0, 1, 0, 0, 0), (.iload_n 1, 2, 0, 0, 0), (.invokevirtual 262, 5, 0, 0, 9), (.aload_n 0, 6, 0, 0, 0), (.getfield 65, 9, 0, 7, 1), (.aload_n 0, 10, 0, 0, 0), (.getfield 58, 13, 0, 5, 1), (.invokevirtual 110, 16, 0, 1, 9), (.astore_n 2, 17, 0, 0, 0), (.iconst 0, 18, 0, 0, 0), (.istore_n 3, 19, 0, 0, 0)]
abbrev bX1_last_19 : List xE := [(.iload_n 3, 20, 0, 0, 0), (.bipush 60, 22, 0, 0, 0), (.if_icmp .ge 32, 25, 0, 54, 0), (.aload_n 2, 26, 0, 0, 0), (.invokevirtual 301, 29, 0, 2, 9), (.pop, 30, 0, 0, 0), (.aload_n 0, 31, 0, 0, 0), (.aload_n 2, 32, 0, 0, 0), (.iload_n 1, 33, 0, 0, 0), (.aload_n 2, 34, 0, 0, 0), (.invokevirtual 204, 37, 0, 3, 9), (.invokevirtual 307, 40, 0, 4, 9), (.ifCond .ne 8, 43, 0, 48, 0), (.aload_n 2, 44, 0, 0, 0), (.getfield 201, 47, 7, 6, 0), (.ireturn, 48, 0, 0, 0)]
abbrev bX1_last_48 : List xE := [(.iinc 3 1, 51, 0, 0, 0), (.goto (-32), 54, 0, 19, 0)]
abbrev bX1_last_54 : List xE := [(.iconst (-1), 55, 0, 0, 0), (.ireturn, 56, 0, 0, 0)]
abbrev kX1_last : List (Nat × List xE) := [(0, bX1_last_0), (19, bX1_last_19), (48, bX1_last_48), (54, bX1_last_54)]
abbrev lX1_last : List (Nat × Nat × Nat × xS) := [(2, 1, 6, xm_this 0 S_X1_needAct), (2, 0, 0, xm_this 7 S_X10_becomes), (1, 0, 0, xm_this 7 S_X10_goes), (1, 0, 0, xm_this 7 S_X10_alive), (4, 0, 0, xm_this 0 S_X1_isCast)]
theorem oX1_last_0  : xm_okb cI RX1 cX1_last false 164 lX1_last bX1_last_0 0 := xo_0 dX1_last_0 rfl trivial (xo_0 dX1_last_1 rfl trivial (xo_c rfl (cv_X1_needAct dX1_last_2 (Or.inl q1618) (by decide)) (xo_0 dX1_last_5 rfl trivial (xo_1 dX1_last_6 rfl (xm_fg_of (Or.inl q726) (by decide) rfl (by decide) rfl rfl (Or.inl rfl) rfl) (xo_0 dX1_last_9 rfl trivial (xo_1 dX1_last_10 rfl (xm_fg_of (Or.inl q724) (by decide) rfl (by decide) rfl rfl (Or.inl rfl) rfl) (xo_c rfl (cv_X10_becomes dX1_last_13 (Or.inl q711) (by decide)) (xo_0 dX1_last_16 rfl trivial (xo_0 dX1_last_17 rfl trivial (xo_0 dX1_last_18 rfl trivial (xo_n)))))))))))
theorem oX1_last_19  : xm_okb cI RX1 cX1_last false 164 lX1_last bX1_last_19 19 := xo_0 dX1_last_19 rfl trivial (xo_0 dX1_last_20 rfl (xo_bipush (by decide +kernel)) (xo_0 dX1_last_22 rfl rfl (xo_0 dX1_last_25 rfl trivial (xo_c rfl (cv_X10_goes dX1_last_26 (Or.inl q872) (by decide)) (xo_0 dX1_last_29 rfl trivial (xo_0 dX1_last_30 rfl trivial (xo_0 dX1_last_31 rfl trivial (xo_0 dX1_last_32 rfl trivial (xo_0 dX1_last_33 rfl trivial (xo_c rfl (cv_X10_alive dX1_last_34 (Or.inl q802) (by decide)) (xo_c rfl (cv_X1_isCast dX1_last_37 (Or.inl q814) (by decide)) (xo_0 dX1_last_40 rfl rfl (xo_0 dX1_last_43 rfl trivial (xo_0 dX1_last_44 rfl (xm_fg_of (Or.inr ⟨_, q675⟩) (by decide) rfl (by decide) rfl rfl (Or.inl rfl) rfl) (xo_0 dX1_last_47 rfl trivial (xo_n))))))))))))))))
theorem oX1_last_48  : xm_okb cI RX1 cX1_last false 164 lX1_last bX1_last_48 48 := xo_0 dX1_last_48 rfl trivial (xo_0 dX1_last_51 rfl rfl (xo_n))
theorem oX1_last_54  : xm_okb cI RX1 cX1_last false 164 lX1_last bX1_last_54 54 := xo_0 dX1_last_54 rfl trivial (xo_0 dX1_last_55 rfl trivial (xo_n))
theorem oX1_last  : ∀ q ∈ kX1_last, xm_okb cI RX1 cX1_last false 164 lX1_last q.2 q.1 := by
  intro q hq
  simp only [List.mem_cons, List.not_mem_nil, or_false] at hq
  rcases hq with rfl | rfl | rfl | rfl
  · exact oX1_last_0  
  · exact oX1_last_19  
  · exact oX1_last_48  
  · exact oX1_last_54  
def S_X1_last : xS := cU fun as P Z I Q QX => ∃ a L, as = [.ref 0, .int a] ∧ c_good P Z I L ∧ g_ok (cG P I L) ∧ c_P P Z L (cG P I L) Q QX (q_last (cG P I L) a)
theorem body_X1_last : xm_Body 4 0 1 6 [] lX1_last kX1_last S_X1_last := by
  intro X avs w Q QX hX0 hS
  have hG := xm_go [] hX0
  have hX := xm_go [19,48] hX0
  clear hX0
  obtain ⟨P, Z, I, rfl, a, L, rfl, hg, hk0, hQ⟩ := hS
  have hok := hg.ok
  obtain ⟨hn, h9, hm, h8⟩ := id hok
  have h5 := c_5 (P := P)
  have h7 := c_7 (P := P)
  have ht := hg.now
  obtain ⟨y, hy, ey⟩ := hk0.now.1
  obtain ⟨h6, hs, hc, hc2⟩ := id hg.ls
  refine ⟨rfl, ?_⟩
  repeat' (first
    | ((with_reducible refine @And.intro (vp_in _ _) _ ?_ ?_); (· (first | with_reducible assumption | ((with_reducible refine t_vin ?_); decide) | ((with_reducible refine vp_in_nI ?_ ?_) <;> first | omega | decide) | (simp (disch := omega) only [xl_n, xl_m, nI_dec, nI_sb, nI_add, pk_mul]; (with_reducible refine vp_in_nI ?_ ?_) <;> first | omega | decide))); (conv => whnf))
    | (refine And.intro (by first | with_reducible assumption | exact (show cL _ _ = _ from rfl) | decide) ?_; (conv => whnf))
    | ((with_reducible refine @And.intro (_ = _) _ ?_ ?_); (· rfl); (conv => whnf))
    | ((with_reducible refine @And.intro (@LE.le Nat _ _ _) _ ?_ ?_); (· (first | exact Nat.zero_le _ | exact Nat.le_of_ble_eq_true rfl | omega)); (conv => whnf))
    | ((with_reducible refine @And.intro (@LT.lt Nat _ _ _) _ ?_ ?_); (· omega); (conv => whnf))
    | ((with_reducible refine @And.intro (∃ _, _ = _) _ ?_ ?_); (· exact ⟨_, rfl⟩); (conv => whnf))
    | ((with_reducible refine @And.intro (_ ∨ _) _ ?_ ?_); (· (first | exact Or.inl rfl | exact Or.inr rfl | exact t_b01 _ | assumption)); (conv => whnf))
    | ((with_reducible refine @And.intro (¬ (_ = _)) _ ?_ ?_); (· first | assumption | (with_reducible assumption)); (conv => whnf))
    | (refine hX _ _ _ _ _ _ ?_; (conv => whnf); fail_if_success show False)
    | (rw [c_si]; (conv => whnf))
    | (refine ⟨_, rfl, ?_⟩; (conv => whnf))
    | (refine ⟨_, _, rfl, ?_⟩; (conv => whnf))
    | (refine ⟨_, _, _, rfl, ?_⟩; (conv => whnf))
    | (refine ⟨_, _, _, _, rfl, ?_⟩; (conv => whnf))
    | (refine ⟨a,rfl,hs,h6,?_⟩; (conv => whnf))
    | fail)
  refine ⟨fun e => ?_, fun e x hx => ?_⟩
  · obtain ⟨p, hp, rfl⟩ := t_in_of (by omega) e
    have f : g_isA (cG P I L) (nI p) = true := e
    rw [q_last, f, g_ck_t, nI_clamp (by omega)] at hQ
    have loop : ∀ k, k ≤ 60 → ∀ J, c_sp I J → c_ts P Z J 7 L → J 7 6 = nI (y + k) → g_until (cK I L) (g_lastP (cG P I L) p) (60 - k) (cA J 7) = g_until (cK I L) (g_lastP (cG P I L) p) 60 (cA I 5) → X 19 [some (.ref 0), some (.int (nI p)), some (.ref 7), some (.int (nI k))] [] (cW P Z J) 0 0 := by
      refine t_for fun k h1 ih J hJ tJ yJ uJ => ?_
      have ih := fun q => ih (k + 1) (by omega) q
      have hgJ := hJ.good hg
      refine hG _ _ _ _ _ _ ?_
      (conv => whnf)
      repeat' (first
        | ((with_reducible refine @And.intro (vp_in _ _) _ ?_ ?_); (· (first | with_reducible assumption | ((with_reducible refine t_vin ?_); decide) | ((with_reducible refine vp_in_nI ?_ ?_) <;> first | omega | decide) | (simp (disch := omega) only [xl_n, xl_m, nI_dec, nI_sb, nI_add, pk_mul]; (with_reducible refine vp_in_nI ?_ ?_) <;> first | omega | decide))); (conv => whnf))
        | (refine And.intro (by first | with_reducible assumption | exact (show cL _ _ = _ from rfl) | decide) ?_; (conv => whnf))
        | ((with_reducible refine @And.intro (_ = _) _ ?_ ?_); (· rfl); (conv => whnf))
        | ((with_reducible refine @And.intro (@LE.le Nat _ _ _) _ ?_ ?_); (· (first | exact Nat.zero_le _ | exact Nat.le_of_ble_eq_true rfl | omega)); (conv => whnf))
        | ((with_reducible refine @And.intro (@LT.lt Nat _ _ _) _ ?_ ?_); (· omega); (conv => whnf))
        | ((with_reducible refine @And.intro (∃ _, _ = _) _ ?_ ?_); (· exact ⟨_, rfl⟩); (conv => whnf))
        | ((with_reducible refine @And.intro (_ ∨ _) _ ?_ ?_); (· (first | exact Or.inl rfl | exact Or.inr rfl | exact t_b01 _ | assumption)); (conv => whnf))
        | ((with_reducible refine @And.intro (¬ (_ = _)) _ ?_ ?_); (· first | assumption | (with_reducible assumption)); (conv => whnf))
        | (refine hX _ _ _ _ _ _ ?_; (conv => whnf); fail_if_success show False)
        | (rw [c_si]; (conv => whnf))
        | (refine ⟨_, rfl, ?_⟩; (conv => whnf))
        | (refine ⟨_, _, rfl, ?_⟩; (conv => whnf))
        | (refine ⟨_, _, _, rfl, ?_⟩; (conv => whnf))
        | (refine ⟨_, _, _, _, rfl, ?_⟩; (conv => whnf))
        | fail)
      refine And.intro (fun c => ?_) (fun c => ?_) <;> (conv => whnf)
      · have : k = 60 := Nat.le_antisymm h1 (t_kge (a := nI 60) rfl c (by omega) (by omega))
        subst this
        clear ih
        repeat' (first
          | ((with_reducible refine @And.intro (vp_in _ _) _ ?_ ?_); (· (first | with_reducible assumption | ((with_reducible refine t_vin ?_); decide) | ((with_reducible refine vp_in_nI ?_ ?_) <;> first | omega | decide) | (simp (disch := omega) only [xl_n, xl_m, nI_dec, nI_sb, nI_add, pk_mul]; (with_reducible refine vp_in_nI ?_ ?_) <;> first | omega | decide))); (conv => whnf))
          | (refine And.intro (by first | with_reducible assumption | exact (show cL _ _ = _ from rfl) | decide) ?_; (conv => whnf))
          | ((with_reducible refine @And.intro (_ = _) _ ?_ ?_); (· rfl); (conv => whnf))
          | ((with_reducible refine @And.intro (@LE.le Nat _ _ _) _ ?_ ?_); (· (first | exact Nat.zero_le _ | exact Nat.le_of_ble_eq_true rfl | omega)); (conv => whnf))
          | ((with_reducible refine @And.intro (@LT.lt Nat _ _ _) _ ?_ ?_); (· omega); (conv => whnf))
          | ((with_reducible refine @And.intro (∃ _, _ = _) _ ?_ ?_); (· exact ⟨_, rfl⟩); (conv => whnf))
          | ((with_reducible refine @And.intro (_ ∨ _) _ ?_ ?_); (· (first | exact Or.inl rfl | exact Or.inr rfl | exact t_b01 _ | assumption)); (conv => whnf))
          | ((with_reducible refine @And.intro (¬ (_ = _)) _ ?_ ?_); (· first | assumption | (with_reducible assumption)); (conv => whnf))
          | (refine hX _ _ _ _ _ _ ?_; (conv => whnf); fail_if_success show False)
          | (rw [c_si]; (conv => whnf))
          | (refine ⟨_, rfl, ?_⟩; (conv => whnf))
          | (refine ⟨_, _, rfl, ?_⟩; (conv => whnf))
          | (refine ⟨_, _, _, rfl, ?_⟩; (conv => whnf))
          | (refine ⟨_, _, _, _, rfl, ?_⟩; (conv => whnf))
          | (refine And.intro (fun c => ?_) (fun c => ?_) <;> (first | (exact absurd c (by decide +kernel)) | (conv => whnf)))
          | fail)
        refine c_ask hQ hg hJ ?_
        rw [show Int32.ofInt (-1) = nM by decide +kernel]
        exact uJ
      · have hk : k < 60 := t_klt (a := nI 60) rfl c (by omega)
        have hyk : y + k < 100000 := by omega
        have ih := ih (by omega)
        repeat' (first
          | ((with_reducible refine @And.intro (vp_in _ _) _ ?_ ?_); (· (first | with_reducible assumption | ((with_reducible refine t_vin ?_); decide) | ((with_reducible refine vp_in_nI ?_ ?_) <;> first | omega | decide) | (simp (disch := omega) only [xl_n, xl_m, nI_dec, nI_sb, nI_add, pk_mul]; (with_reducible refine vp_in_nI ?_ ?_) <;> first | omega | decide))); (conv => whnf))
          | (refine And.intro (by first | with_reducible assumption | exact (show cL _ _ = _ from rfl) | decide) ?_; (conv => whnf))
          | ((with_reducible refine @And.intro (_ = _) _ ?_ ?_); (· rfl); (conv => whnf))
          | ((with_reducible refine @And.intro (@LE.le Nat _ _ _) _ ?_ ?_); (· (first | exact Nat.zero_le _ | exact Nat.le_of_ble_eq_true rfl | omega)); (conv => whnf))
          | ((with_reducible refine @And.intro (@LT.lt Nat _ _ _) _ ?_ ?_); (· omega); (conv => whnf))
          | ((with_reducible refine @And.intro (∃ _, _ = _) _ ?_ ?_); (· exact ⟨_, rfl⟩); (conv => whnf))
          | ((with_reducible refine @And.intro (_ ∨ _) _ ?_ ?_); (· (first | exact Or.inl rfl | exact Or.inr rfl | exact t_b01 _ | assumption)); (conv => whnf))
          | ((with_reducible refine @And.intro (¬ (_ = _)) _ ?_ ?_); (· first | assumption | (with_reducible assumption)); (conv => whnf))
          | (refine hX _ _ _ _ _ _ ?_; (conv => whnf); fail_if_success show False)
          | (rw [c_si]; (conv => whnf))
          | (refine ⟨_, rfl, ?_⟩; (conv => whnf))
          | (refine ⟨_, _, rfl, ?_⟩; (conv => whnf))
          | (refine ⟨_, _, _, rfl, ?_⟩; (conv => whnf))
          | (refine ⟨_, _, _, _, rfl, ?_⟩; (conv => whnf))
          | (refine ⟨7,L,y+k,rfl,tJ,yJ,hyk,?_⟩; (conv => whnf))
          | (rw [c_tl h7]; (conv => whnf))
          | (rw [c_t7 h7]; (conv => whnf))
          | (rw [c_tf h7 (by decide)]; (conv => whnf))
          | (rw [c_t0 h7]; (conv => whnf))
          | (rw [c_t1 h7]; (conv => whnf))
          | (rw [c_t2 h7]; (conv => whnf))
          | (rw [c_t3 h7]; (conv => whnf))
          | (rw [c_t4 h7]; (conv => whnf))
          | (rw [c_t5 h7]; (conv => whnf))
          | (refine And.intro ⟨_, c_tl h7⟩ ?_; (conv => whnf))
          | (refine And.intro (fun c => ?_) (fun c => ?_) <;> (first | (exact absurd c (by decide +kernel)) | (conv => whnf)))
          | fail)
        intro K hK tK eK
        (conv => whnf)
        have eK : cA K 7 = g_goes (cK I L) (cA J 7) := by rw [eK, hJ.kp.K hok hg.2.2.2.2.1]
        rw [show 60 - k = (60 - (k + 1)) + 1 by omega, g_until_s, ← eK] at uJ
        have yK : K 7 6 = nI (y + (k + 1)) := by
          rw [← cA_gy (I := K) (r := 7), eK, gy_goes, cA_gy, yJ, nI_add]
          rfl
        have spK := hJ.tr hK.sp
        have hgK := spK.good hg
        have eG := spK.G hg
        have okK := hgK.ok
        have hkK : g_ok (cG P K L) := by rw [eG]; exact hk0
        have iK := tK.2.2.1
        repeat' (first
          | ((with_reducible refine @And.intro (vp_in _ _) _ ?_ ?_); (· (first | with_reducible assumption | ((with_reducible refine t_vin ?_); decide) | ((with_reducible refine vp_in_nI ?_ ?_) <;> first | omega | decide) | (simp (disch := omega) only [xl_n, xl_m, nI_dec, nI_sb, nI_add, pk_mul]; (with_reducible refine vp_in_nI ?_ ?_) <;> first | omega | decide))); (conv => whnf))
          | (refine And.intro (by first | with_reducible assumption | exact (show cL _ _ = _ from rfl) | decide) ?_; (conv => whnf))
          | ((with_reducible refine @And.intro (_ = _) _ ?_ ?_); (· rfl); (conv => whnf))
          | ((with_reducible refine @And.intro (@LE.le Nat _ _ _) _ ?_ ?_); (· (first | exact Nat.zero_le _ | exact Nat.le_of_ble_eq_true rfl | omega)); (conv => whnf))
          | ((with_reducible refine @And.intro (@LT.lt Nat _ _ _) _ ?_ ?_); (· omega); (conv => whnf))
          | ((with_reducible refine @And.intro (∃ _, _ = _) _ ?_ ?_); (· exact ⟨_, rfl⟩); (conv => whnf))
          | ((with_reducible refine @And.intro (_ ∨ _) _ ?_ ?_); (· (first | exact Or.inl rfl | exact Or.inr rfl | exact t_b01 _ | assumption)); (conv => whnf))
          | ((with_reducible refine @And.intro (¬ (_ = _)) _ ?_ ?_); (· first | assumption | (with_reducible assumption)); (conv => whnf))
          | (refine hX _ _ _ _ _ _ ?_; (conv => whnf); fail_if_success show False)
          | (rw [c_si]; (conv => whnf))
          | (refine ⟨_, rfl, ?_⟩; (conv => whnf))
          | (refine ⟨_, _, rfl, ?_⟩; (conv => whnf))
          | (refine ⟨_, _, _, rfl, ?_⟩; (conv => whnf))
          | (refine ⟨_, _, _, _, rfl, ?_⟩; (conv => whnf))
          | (refine ⟨7,rfl,h7,okK,iK,?_⟩; (conv => whnf))
          | (rw [c_tl h7]; (conv => whnf))
          | (rw [c_t7 h7]; (conv => whnf))
          | (rw [c_tf h7 (by decide)]; (conv => whnf))
          | (rw [c_t0 h7]; (conv => whnf))
          | (rw [c_t1 h7]; (conv => whnf))
          | (rw [c_t2 h7]; (conv => whnf))
          | (rw [c_t3 h7]; (conv => whnf))
          | (rw [c_t4 h7]; (conv => whnf))
          | (rw [c_t5 h7]; (conv => whnf))
          | (refine And.intro ⟨_, c_tl h7⟩ ?_; (conv => whnf))
          | (refine And.intro (fun c => ?_) (fun c => ?_) <;> (first | (exact absurd c (by decide +kernel)) | (conv => whnf)))
          | fail)
        refine ⟨7, p, L, _, rfl, h7, hgK, hkK, hp, c_al_a okK.2.1, fun M hM _ => ?_⟩
        have tM : c_ts P Z M 7 L := ⟨h7, (hM.sp.good hgK).ok, fun h hh => by
          rw [hM.sp.kp.hp.1] at hh
          rw [hM.A (by omega) (by omega) (by omega), hM.1 _ (by omega) (by omega) (by omega), hM.1 31 (by omega) (by omega) (by omega), hM.1 7 (by omega) (by omega) (by omega)]
          exact iK h hh, by rw [hM.A (by omega) (by omega) (by omega)]; exact tK.2.2.2.1, (hM.sp.good hgK).lw⟩
        have yM : M 7 6 = nI (y + (k + 1)) := by rw [hM.1 7 (by omega) (by omega) (by omega)]; exact yK
        rw [c_al (L := L) iK, eG, spK.kp.K hok hg.2.2.2.2.1]
        have ih := ih M (spK.tr hM.sp) tM yM
        rw [hM.A (by omega) (by omega) (by omega)] at ih
        have x48 : g_lastP (cG P I L) p (cA K 7) = false → X 48 [some (.ref 0), some (.int (nI p)), some (.ref 7), some (.int (nI k))] [] (cW P Z M) 0 0 := fun q => by
          rw [if_neg (by rw [q]; decide)] at uJ
          have := ih uJ
          clear ih
          refine hG _ _ _ _ _ _ ?_
          (conv => whnf)
          repeat' (first
            | ((with_reducible refine @And.intro (vp_in _ _) _ ?_ ?_); (· (first | with_reducible assumption | ((with_reducible refine t_vin ?_); decide) | ((with_reducible refine vp_in_nI ?_ ?_) <;> first | omega | decide) | (simp (disch := omega) only [xl_n, xl_m, nI_dec, nI_sb, nI_add, pk_mul]; (with_reducible refine vp_in_nI ?_ ?_) <;> first | omega | decide))); (conv => whnf))
            | (refine And.intro (by first | with_reducible assumption | exact (show cL _ _ = _ from rfl) | decide) ?_; (conv => whnf))
            | ((with_reducible refine @And.intro (_ = _) _ ?_ ?_); (· rfl); (conv => whnf))
            | ((with_reducible refine @And.intro (@LE.le Nat _ _ _) _ ?_ ?_); (· (first | exact Nat.zero_le _ | exact Nat.le_of_ble_eq_true rfl | omega)); (conv => whnf))
            | ((with_reducible refine @And.intro (@LT.lt Nat _ _ _) _ ?_ ?_); (· omega); (conv => whnf))
            | ((with_reducible refine @And.intro (∃ _, _ = _) _ ?_ ?_); (· exact ⟨_, rfl⟩); (conv => whnf))
            | ((with_reducible refine @And.intro (_ ∨ _) _ ?_ ?_); (· (first | exact Or.inl rfl | exact Or.inr rfl | exact t_b01 _ | assumption)); (conv => whnf))
            | ((with_reducible refine @And.intro (¬ (_ = _)) _ ?_ ?_); (· first | assumption | (with_reducible assumption)); (conv => whnf))
            | (refine hX _ _ _ _ _ _ ?_; (conv => whnf); fail_if_success show False)
            | (rw [c_si]; (conv => whnf))
            | (refine ⟨_, rfl, ?_⟩; (conv => whnf))
            | (refine ⟨_, _, rfl, ?_⟩; (conv => whnf))
            | (refine ⟨_, _, _, rfl, ?_⟩; (conv => whnf))
            | (refine ⟨_, _, _, _, rfl, ?_⟩; (conv => whnf))
            | (refine And.intro (fun c => ?_) (fun c => ?_) <;> (first | (exact absurd c (by decide +kernel)) | (conv => whnf)))
            | fail)
          clear hX hG
          simp (disch := omega) only [xl_n, xl_m, nI_dec, nI_sb, xl_0, xl_1, cW_i, Nat.add_zero, Nat.reduceAdd, Nat.reduceMul, t_bn0, t_bn1, Classical.not_not, t_lt, nI_add, nI_1, pk_mul, nI_clamp, c_si, nI_eq, nI_leI, nM_ne, nM_ne, xm_set] at *
          exact this
        clear ih
        have elp : g_lastP (cG P I L) p (cA K 7) = !g_is (g_casts (cG P I L) (cA K 7) (g_alive (cK I L) (cA K 7)) p) := rfl
        rw [elp] at x48 uJ
        cases q : g_is (g_casts (cG P I L) (cA K 7) (g_alive (cK I L) (cA K 7)) p) with
        | true =>
          have x48 := x48 (by rw [q]; rfl)
          have d1 : ¬ t_b true = 0 := by decide +kernel
          (conv => whnf)
          repeat' (first
            | ((with_reducible refine @And.intro (vp_in _ _) _ ?_ ?_); (· (first | with_reducible assumption | ((with_reducible refine t_vin ?_); decide) | ((with_reducible refine vp_in_nI ?_ ?_) <;> first | omega | decide) | (simp (disch := omega) only [xl_n, xl_m, nI_dec, nI_sb, nI_add, pk_mul]; (with_reducible refine vp_in_nI ?_ ?_) <;> first | omega | decide))); (conv => whnf))
            | (refine And.intro (by first | with_reducible assumption | exact (show cL _ _ = _ from rfl) | decide) ?_; (conv => whnf))
            | ((with_reducible refine @And.intro (_ = _) _ ?_ ?_); (· rfl); (conv => whnf))
            | ((with_reducible refine @And.intro (@LE.le Nat _ _ _) _ ?_ ?_); (· (first | exact Nat.zero_le _ | exact Nat.le_of_ble_eq_true rfl | omega)); (conv => whnf))
            | ((with_reducible refine @And.intro (@LT.lt Nat _ _ _) _ ?_ ?_); (· omega); (conv => whnf))
            | ((with_reducible refine @And.intro (∃ _, _ = _) _ ?_ ?_); (· exact ⟨_, rfl⟩); (conv => whnf))
            | ((with_reducible refine @And.intro (_ ∨ _) _ ?_ ?_); (· (first | exact Or.inl rfl | exact Or.inr rfl | exact t_b01 _ | assumption)); (conv => whnf))
            | ((with_reducible refine @And.intro (¬ (_ = _)) _ ?_ ?_); (· first | assumption | (with_reducible assumption)); (conv => whnf))
            | (refine hX _ _ _ _ _ _ ?_; (conv => whnf); fail_if_success show False)
            | (rw [c_si]; (conv => whnf))
            | (refine ⟨_, rfl, ?_⟩; (conv => whnf))
            | (refine ⟨_, _, rfl, ?_⟩; (conv => whnf))
            | (refine ⟨_, _, _, rfl, ?_⟩; (conv => whnf))
            | (refine ⟨_, _, _, _, rfl, ?_⟩; (conv => whnf))
            | (refine And.intro (fun c => ?_) (fun c => ?_) <;> (first | (exact absurd c (by decide +kernel)) | (exact absurd c (by assumption)) | (exact False.elim (c (by assumption))) | (conv => whnf)))
            | fail)
          exact x48
        | false =>
          rw [q, if_pos (by decide)] at uJ
          have d1 : t_b false = 0 := rfl
          clear x48
          (conv => whnf)
          repeat' (first
            | ((with_reducible refine @And.intro (vp_in _ _) _ ?_ ?_); (· (first | with_reducible assumption | ((with_reducible refine t_vin ?_); decide) | ((with_reducible refine vp_in_nI ?_ ?_) <;> first | omega | decide) | (simp (disch := omega) only [xl_n, xl_m, nI_dec, nI_sb, nI_add, pk_mul]; (with_reducible refine vp_in_nI ?_ ?_) <;> first | omega | decide))); (conv => whnf))
            | (refine And.intro (by first | with_reducible assumption | exact (show cL _ _ = _ from rfl) | decide) ?_; (conv => whnf))
            | ((with_reducible refine @And.intro (_ = _) _ ?_ ?_); (· rfl); (conv => whnf))
            | ((with_reducible refine @And.intro (@LE.le Nat _ _ _) _ ?_ ?_); (· (first | exact Nat.zero_le _ | exact Nat.le_of_ble_eq_true rfl | omega)); (conv => whnf))
            | ((with_reducible refine @And.intro (@LT.lt Nat _ _ _) _ ?_ ?_); (· omega); (conv => whnf))
            | ((with_reducible refine @And.intro (∃ _, _ = _) _ ?_ ?_); (· exact ⟨_, rfl⟩); (conv => whnf))
            | ((with_reducible refine @And.intro (_ ∨ _) _ ?_ ?_); (· (first | exact Or.inl rfl | exact Or.inr rfl | exact t_b01 _ | assumption)); (conv => whnf))
            | ((with_reducible refine @And.intro (¬ (_ = _)) _ ?_ ?_); (· first | assumption | (with_reducible assumption)); (conv => whnf))
            | (refine hX _ _ _ _ _ _ ?_; (conv => whnf); fail_if_success show False)
            | (rw [c_si]; (conv => whnf))
            | (refine ⟨_, rfl, ?_⟩; (conv => whnf))
            | (refine ⟨_, _, rfl, ?_⟩; (conv => whnf))
            | (refine ⟨_, _, _, rfl, ?_⟩; (conv => whnf))
            | (refine ⟨_, _, _, _, rfl, ?_⟩; (conv => whnf))
            | (rw [c_tl h7]; (conv => whnf))
            | (rw [c_t7 h7]; (conv => whnf))
            | (rw [c_tf h7 (by decide)]; (conv => whnf))
            | (rw [c_t0 h7]; (conv => whnf))
            | (rw [c_t1 h7]; (conv => whnf))
            | (rw [c_t2 h7]; (conv => whnf))
            | (rw [c_t3 h7]; (conv => whnf))
            | (rw [c_t4 h7]; (conv => whnf))
            | (rw [c_t5 h7]; (conv => whnf))
            | (refine And.intro ⟨_, c_tl h7⟩ ?_; (conv => whnf))
            | (refine And.intro (fun c => ?_) (fun c => ?_) <;> (first | (exact absurd c (by decide +kernel)) | (exact absurd c (by assumption)) | (exact False.elim (c (by assumption))) | (conv => whnf)))
            | fail)
          have e7 : M 7 6 = gy (cA K 7) := by
            rw [hM.1 7 (by omega) (by omega) (by omega)]
            rfl
          exact c_ask hQ hg (spK.tr hM.sp) (e7.trans uJ)
    (conv => whnf)
    repeat' (first
      | ((with_reducible refine @And.intro (vp_in _ _) _ ?_ ?_); (· (first | with_reducible assumption | ((with_reducible refine t_vin ?_); decide) | ((with_reducible refine vp_in_nI ?_ ?_) <;> first | omega | decide) | (simp (disch := omega) only [xl_n, xl_m, nI_dec, nI_sb, nI_add, pk_mul]; (with_reducible refine vp_in_nI ?_ ?_) <;> first | omega | decide))); (conv => whnf))
      | (refine And.intro (by first | with_reducible assumption | exact (show cL _ _ = _ from rfl) | decide) ?_; (conv => whnf))
      | ((with_reducible refine @And.intro (_ = _) _ ?_ ?_); (· rfl); (conv => whnf))
      | ((with_reducible refine @And.intro (@LE.le Nat _ _ _) _ ?_ ?_); (· (first | exact Nat.zero_le _ | exact Nat.le_of_ble_eq_true rfl | omega)); (conv => whnf))
      | ((with_reducible refine @And.intro (@LT.lt Nat _ _ _) _ ?_ ?_); (· omega); (conv => whnf))
      | ((with_reducible refine @And.intro (∃ _, _ = _) _ ?_ ?_); (· exact ⟨_, rfl⟩); (conv => whnf))
      | ((with_reducible refine @And.intro (_ ∨ _) _ ?_ ?_); (· (first | exact Or.inl rfl | exact Or.inr rfl | exact t_b01 _ | assumption)); (conv => whnf))
      | ((with_reducible refine @And.intro (¬ (_ = _)) _ ?_ ?_); (· first | assumption | (with_reducible assumption)); (conv => whnf))
      | (refine hX _ _ _ _ _ _ ?_; (conv => whnf); fail_if_success show False)
      | (rw [c_si]; (conv => whnf))
      | (refine ⟨_, rfl, ?_⟩; (conv => whnf))
      | (refine ⟨_, _, rfl, ?_⟩; (conv => whnf))
      | (refine ⟨_, _, _, rfl, ?_⟩; (conv => whnf))
      | (refine ⟨_, _, _, _, rfl, ?_⟩; (conv => whnf))
      | (refine ⟨7,5,L,rfl,h7,ht,?_⟩; (conv => whnf))
      | (rw [c_tl h5]; (conv => whnf))
      | (rw [c_t7 h5]; (conv => whnf))
      | (rw [c_tf h5 (by decide)]; (conv => whnf))
      | (rw [c_t0 h5]; (conv => whnf))
      | (rw [c_t1 h5]; (conv => whnf))
      | (rw [c_t2 h5]; (conv => whnf))
      | (rw [c_t3 h5]; (conv => whnf))
      | (rw [c_t4 h5]; (conv => whnf))
      | (rw [c_t5 h5]; (conv => whnf))
      | (refine And.intro ⟨_, c_tl h5⟩ ?_; (conv => whnf))
      | (rw [c_tl h7]; (conv => whnf))
      | (rw [c_t7 h7]; (conv => whnf))
      | (rw [c_tf h7 (by decide)]; (conv => whnf))
      | (rw [c_t0 h7]; (conv => whnf))
      | (rw [c_t1 h7]; (conv => whnf))
      | (rw [c_t2 h7]; (conv => whnf))
      | (rw [c_t3 h7]; (conv => whnf))
      | (rw [c_t4 h7]; (conv => whnf))
      | (rw [c_t5 h7]; (conv => whnf))
      | (refine And.intro ⟨_, c_tl h7⟩ ?_; (conv => whnf))
      | (refine And.intro (fun c => ?_) (fun c => ?_) <;> (first | (exact absurd c (by decide +kernel)) | (conv => whnf)))
      | fail)
    intro J hJ tJ eJ
    (conv => whnf)
    have yJ : J 7 6 = nI (y + 0) := by
      rw [← cA_gy (I := J) (r := 7), eJ]
      exact ey
    have fin := loop 0 (by omega) J hJ.sp tJ yJ (by rw [eJ])
    clear loop
    repeat' (first
      | ((with_reducible refine @And.intro (vp_in _ _) _ ?_ ?_); (· (first | with_reducible assumption | ((with_reducible refine t_vin ?_); decide) | ((with_reducible refine vp_in_nI ?_ ?_) <;> first | omega | decide) | (simp (disch := omega) only [xl_n, xl_m, nI_dec, nI_sb, nI_add, pk_mul]; (with_reducible refine vp_in_nI ?_ ?_) <;> first | omega | decide))); (conv => whnf))
      | (refine And.intro (by first | with_reducible assumption | exact (show cL _ _ = _ from rfl) | decide) ?_; (conv => whnf))
      | ((with_reducible refine @And.intro (_ = _) _ ?_ ?_); (· rfl); (conv => whnf))
      | ((with_reducible refine @And.intro (@LE.le Nat _ _ _) _ ?_ ?_); (· (first | exact Nat.zero_le _ | exact Nat.le_of_ble_eq_true rfl | omega)); (conv => whnf))
      | ((with_reducible refine @And.intro (@LT.lt Nat _ _ _) _ ?_ ?_); (· omega); (conv => whnf))
      | ((with_reducible refine @And.intro (∃ _, _ = _) _ ?_ ?_); (· exact ⟨_, rfl⟩); (conv => whnf))
      | ((with_reducible refine @And.intro (_ ∨ _) _ ?_ ?_); (· (first | exact Or.inl rfl | exact Or.inr rfl | exact t_b01 _ | assumption)); (conv => whnf))
      | ((with_reducible refine @And.intro (¬ (_ = _)) _ ?_ ?_); (· first | assumption | (with_reducible assumption)); (conv => whnf))
      | (refine hX _ _ _ _ _ _ ?_; (conv => whnf); fail_if_success show False)
      | (rw [c_si]; (conv => whnf))
      | (refine ⟨_, rfl, ?_⟩; (conv => whnf))
      | (refine ⟨_, _, rfl, ?_⟩; (conv => whnf))
      | (refine ⟨_, _, _, rfl, ?_⟩; (conv => whnf))
      | (refine ⟨_, _, _, _, rfl, ?_⟩; (conv => whnf))
      | (refine And.intro (fun c => ?_) (fun c => ?_) <;> (first | (exact absurd c (by decide +kernel)) | (conv => whnf)))
      | fail)
    clear hX hG hQ
    simp (disch := omega) only [xl_n, xl_m, nI_dec, nI_sb, xl_0, xl_1, cW_i, Nat.add_zero, Nat.reduceAdd, Nat.reduceMul, t_bn0, t_bn1, Classical.not_not, t_lt, nI_add, nI_1, pk_mul, nI_clamp, c_si, nI_eq, nI_leI, nM_ne, nM_ne, xm_set, xm_lv0, xm_psh] at *
    exact fin
  · exact c_ref0 hQ hg e hx n1_0
theorem ct_X1_last : xm_Ct cI yX1_last (ws_ yX1_last cX1_last 4 (some .int)) 164 1 6 S_X1_last := xm_enter (rt := 0) (init := false) (by decide +kernel) rfl (fun h => by cases h) (Or.inl ⟨rfl, rfl⟩) (oX1_last) body_X1_last
theorem cv_X1_last {own : String} {cc : ByteArray} {fr pc idx : Nat} (hdg : decode cc pc = .ok (.invokevirtual idx, 3)) (hl : xm_ml own idx yX1_last) (hfr : 164 < fr) : xm_CallOK cI own cc fr pc (pc + 3) 2 1 6 (xm_this 0 S_X1_last) := xm_callV 0 cI_good (ct_X1_last) hdg hl q1698 q1699 q116 q1700 rfl rfl (by decide +kernel) hfr (by decide)
/-! thumbs: in every cast -/
theorem g_can_no {G : gG} {al used s : Int32} {p h : Nat} (hh : h < 32) : g_can G (al &&& (t_bit h ^^^ nM)) used p s = (g_can G al used p s && !t_has s h) := by
  have e : (s &&& (used ||| gquar (gGK G) p ||| ((al &&& (t_bit h ^^^ nM)) ^^^ nM)) = nI 0) ↔ (s &&& (used ||| gquar (gGK G) p ||| (al ^^^ nM)) = nI 0) ∧ t_has s h = false := by
    rw [th_z, th_z]
    constructor
    · intro q
      refine ⟨fun k hk hs => ?_, ?_⟩
      · have := q k hk hs
        rw [th_or hk, th_not hk, th_and hk] at this
        rw [th_or hk, th_not hk]
        cases e1 : t_has al k with
        | true => simp [e1] at this ⊢; exact this.1
        | false => simp [e1] at this
      · cases e1 : t_has s h with
        | false => rfl
        | true =>
          have := q h hh e1
          rw [th_or hh, th_not hh, th_and hh, th_not hh, th_bit hh hh] at this
          simp at this
    · intro ⟨q1, q2⟩ k hk hs
      have := q1 k hk hs
      have hkh : k ≠ h := fun z => by rw [z, q2] at hs; cases hs
      rw [th_or hk, th_not hk] at this
      rw [th_or hk, th_not hk, th_and hk, th_not hk, th_bit hh hk, decide_eq_false hkh]
      simpa using this
  unfold g_can
  by_cases f : s &&& (used ||| gquar (gGK G) p ||| (al ^^^ nM)) = nI 0
  · cases q : t_has s h with
    | false => rw [decide_eq_true f, decide_eq_true (e.mpr ⟨f, q⟩)]; simp
    | true =>
      have ne : ¬ (s &&& (used ||| gquar (gGK G) p ||| ((al &&& (t_bit h ^^^ nM)) ^^^ nM)) = nI 0) := fun z => by
        have := (e.mp z).2
        rw [q] at this
        cases this
      rw [decide_eq_false ne]
      simp
  · have ne : ¬ (s &&& (used ||| gquar (gGK G) p ||| ((al &&& (t_bit h ^^^ nM)) ^^^ nM)) = nI 0) := fun z => f (e.mp z).1
    rw [decide_eq_false f, decide_eq_false ne]
    simp
theorem g_sets_mem {G : gG} {al used s : Int32} {p n : Nat} : s ∈ g_sets G al used p n ↔ ∃ k, k < n ∧ s = nI (k + 1) ∧ g_can G al used p s = true :=
  ⟨g_sets_in, fun ⟨k, hk, e, h⟩ => by rw [e] at h ⊢; exact g_sets_of hk h⟩
theorem g_cs_mem {G : gG} {T : gT} {al used l : Int32} {p : Nat} {r : gP} {c : List Int32} : c ∈ g_cs G T al ((p, l) :: r) used ↔ l ≤ gs T p ∧ ∃ s c', c = s :: c' ∧ s ∈ g_sets G al used p (g_all G) ∧ c' ∈ g_cs G T al r (used ||| s) := by
  rw [g_cs_c]
  by_cases h : l ≤ gs T p
  · rw [if_pos h, List.mem_flatMap]
    constructor
    · rintro ⟨s, hs, hc⟩
      rw [List.mem_map] at hc
      obtain ⟨c', h1, rfl⟩ := hc
      exact ⟨h, s, c', rfl, hs, h1⟩
    · rintro ⟨-, s, c', rfl, hs, hc⟩
      exact ⟨s, hs, List.mem_map.mpr ⟨c', hc, rfl⟩⟩
  · rw [if_neg h]
    exact ⟨fun q => (by cases q), fun q => absurd q.1 h⟩
theorem g_cs_wo {G : gG} {T : gT} {al : Int32} {h : Nat} (hh : h < 32) : ∀ {P : gP} {used : Int32} {c : List Int32}, c ∈ g_cs G T (al &&& (t_bit h ^^^ nM)) P used ↔ c ∈ g_cs G T al P used ∧ ∀ s, s ∈ c → t_has s h = false
  | [], used, c => by
    rw [g_cs_n, g_cs_n]
    constructor
    · intro q
      rw [List.mem_singleton] at q
      subst q
      exact ⟨List.mem_singleton.mpr rfl, fun s hs => by cases hs⟩
    · exact fun q => q.1
  | (p, l) :: r, used, c => by
    rw [g_cs_mem, g_cs_mem]
    constructor
    · rintro ⟨h1, s, c', rfl, hs, hc⟩
      rw [g_cs_wo hh] at hc
      rw [g_sets_mem] at hs
      obtain ⟨k, hk, e, hc2⟩ := hs
      rw [g_can_no hh, Bool.and_eq_true, Bool.not_eq_true'] at hc2
      refine ⟨⟨h1, s, c', rfl, g_sets_mem.mpr ⟨k, hk, e, hc2.1⟩, hc.1⟩, fun x hx => ?_⟩
      rcases List.mem_cons.mp hx with rfl | hx
      · exact hc2.2
      · exact hc.2 x hx
    · rintro ⟨⟨h1, s, c', rfl, hs, hc⟩, hno⟩
      rw [g_sets_mem] at hs
      obtain ⟨k, hk, e, hc2⟩ := hs
      refine ⟨h1, s, c', rfl, g_sets_mem.mpr ⟨k, hk, e, ?_⟩, (g_cs_wo hh).mpr ⟨hc, fun x hx => hno x (List.mem_cons_of_mem _ hx)⟩⟩
      rw [g_can_no hh, hc2, hno s List.mem_cons_self]
      rfl
theorem g_un_has {k : Nat} (hk : k < 32) : ∀ {c : List Int32} {u : Int32}, t_has (c.foldl (fun u s => u ||| s) u) k = (t_has u k || c.any fun s => t_has s k)
  | [], u => by simp
  | s :: c, u => by
    rw [List.foldl_cons, g_un_has hk, th_or hk, List.any_cons, Bool.or_assoc]
theorem g_thumbs_has {n k : Nat} (hk : k < 32) : ∀ {L : List (List Int32)} {u : Int32}, t_has (L.foldl (fun r c => r &&& g_un c) u) k = (t_has u k && L.all fun c => c.any fun s => t_has s k)
  | [], u => by simp
  | c :: L, u => by
    rw [List.foldl_cons, g_thumbs_has (n := n) hk, th_and hk, List.all_cons, Bool.and_assoc]
    congr 2
    unfold g_un
    rw [g_un_has hk, th_0 hk, Bool.false_or]
theorem th_full : ∀ n, n < 10 → ∀ k, k < 32 → t_has (nI (2 ^ n) - nI 1) k = decide (k < n) := by decide +kernel
/-- a set of a cast is alive -/
theorem g_cs_al {G : gG} {T : gT} {al : Int32} {k : Nat} (hk : k < 32) : ∀ {P : gP} {used : Int32} {c : List Int32}, c ∈ g_cs G T al P used → ∀ s, s ∈ c → t_has s k = true → t_has al k = true
  | [], used, c, h, s, hs, _ => by
    rw [g_cs_n, List.mem_singleton] at h
    subst h
    cases hs
  | (p, l) :: r, used, c, h, s, hs, hx => by
    rw [g_cs_mem] at h
    obtain ⟨-, s', c', rfl, h1, h2⟩ := h
    rcases List.mem_cons.mp hs with rfl | hs
    · rw [g_sets_mem] at h1
      obtain ⟨-, -, -, hc⟩ := h1
      unfold g_can at hc
      simp at hc
      have := th_z.mp hc.1.2 k hk hx
      rw [th_or hk, th_not hk] at this
      simp at this
      exact this.2
    · exact g_cs_al hk h2 s hs hx
theorem g_thumbs_eq {G : gG} {T : gT} {al : Int32} {a : Nat} (h9 : gn (gGK G) ≤ 9) (hal : ∀ k, k < 32 → t_has al k = true → k < gn (gGK G)) (hne : ¬ g_casts G T al a = []) : t_or (gn (gGK G)) (fun h => t_has al h && !g_is (g_casts G T (al &&& (t_bit h ^^^ nM)) a)) = g_thumbs (gn (gGK G)) (g_casts G T al a) := by
  refine th_ext fun k hk => ?_
  unfold g_thumbs
  rw [th_OR (by omega) hk, g_thumbs_has (n := 0) hk, th_full _ (by omega) k hk]
  by_cases hkn : k < gn (gGK G)
  · rw [decide_eq_true hkn, Bool.true_and, Bool.true_and, Bool.eq_iff_iff]
    constructor
    · intro q
      rw [Bool.and_eq_true, Bool.not_eq_true', g_is_f] at q
      rw [List.all_eq_true]
      intro c hc
      cases e : c.any fun s => t_has s k with
      | true => rfl
      | false =>
        have : c ∈ g_casts G T (al &&& (t_bit k ^^^ nM)) a := (g_cs_wo hk).mpr ⟨hc, fun s hs => by
          have := List.any_eq_false.mp e s hs
          simpa using this⟩
        rw [q.2] at this
        cases this
    · intro q
      rw [List.all_eq_true] at q
      rw [Bool.and_eq_true, Bool.not_eq_true', g_is_f]
      refine ⟨?_, ?_⟩
      · cases e : g_casts G T al a with
        | nil => exact absurd e hne
        | cons c L =>
          have hc : c ∈ g_casts G T al a := by rw [e]; exact List.mem_cons_self
          obtain ⟨s, hs, hx⟩ := List.any_eq_true.mp (q c hc)
          exact g_cs_al hk hc s hs hx
      · refine List.eq_nil_iff_forall_not_mem.mpr fun c hc => ?_
        have hc := (g_cs_wo hk).mp hc
        obtain ⟨s, hs, hx⟩ := List.any_eq_true.mp (q c hc.1)
        rw [hc.2 s hs] at hx
        cases hx
  · rw [decide_eq_false hkn]
    rfl
abbrev bX1_thumbs_0 : List xE := [(.aload_n 0, 1, 0, 0, 0), (.iload_n 1, 2, 0, 0, 0), (.invokevirtual 262, 5, 0, 0, 9), (.aload_n 0, 6, 0, 0, 0), (.aload_n 0, 7, 0, 0, 0), (.getfield 58, 10, 0, 5, 1), (.iload_n 1, 11, 0, 0, 0), (.aload_n 0, 12, 0, 0, 0), (.getfield 58, 15, 0, 5, 1), (.invokevirtual 204, 18, 0, 1, 9), (.invokevirtual 307, 21, 0, 2, 9), (.ifCond .ne 5, 24, 0, 26, 0), (.iconst 0, 25, 0, 0, 0), (.ireturn, 26, 0, 0, 0)]
abbrev bX1_thumbs_26 : List xE := [(.iconst 0, 27, 0, 0, 0), (.istore_n 2, 28, 0, 0, 0), (.iconst 0, 29, 0, 0, 0), (.istore_n 3, 30, 0, 0, 0)]
abbrev bX1_thumbs_30 : List xE := [(.iload_n 3, 31, 0, 0, 0), (.aload_n 0, 32, 0, 0, 0), (.getfield 31, 35, 0, 0, 1), (.getfield 126, 38, 1, 11, 0), (.if_icmp .ge 57, 41, 0, 95, 0), (.iload_n 2, 42, 0, 0, 0), (.aload_n 0, 43, 0, 0, 0), (.getfield 58, 46, 0, 5, 1), (.getfield 226, 49, 7, 0, 1), (.iload_n 3, 50, 0, 0, 0), (.iaload, 51, 0, 0, 0), (.iconst 1, 52, 0, 0, 0), (.if_icmp .ne 34, 55, 0, 86, 0), (.aload_n 0, 56, 0, 0, 0), (.aload_n 0, 57, 0, 0, 0), (.getfield 58, 60, 0, 5, 1), (.iload_n 1, 61, 0, 0, 0), (.aload_n 0, 62, 0, 0, 0), (.getfield 58, 65, 0, 5, 1), (.invokevirtual 204, 68, 0, 1, 9), (.iconst 1, 69, 0, 0, 0), (.iload_n 3, 70, 0, 0, 0), (.ishl, 71, 0, 0, 0), (.iconst (-1), 72, 0, 0, 0), (.ixor, 73, 0, 0, 0), (.iand, 74, 0, 0, 0), (.invokevirtual 307, 77, 0, 2, 9), (.ifCond .ne 9, 80, 0, 86, 0), (.iconst 1, 81, 0, 0, 0), (.iload_n 3, 82, 0, 0, 0), (.ishl, 83, 0, 0, 0), (.goto 4, 86, 0, 87, 0)]
abbrev bX1_thumbs_86 : List xE := [(.iconst 0, 87, 0, 0, 0)]
abbrev bX1_thumbs_87 : List xE := [(.ior, 88, 0, 0, 0), (.istore_n 2, 89, 0, 0, 0), (.iinc 3 1, 92, 0, 0, 0), (.goto (-62), 95, 0, 30, 0)]
abbrev bX1_thumbs_95 : List xE := [(.iload_n 2, 96, 0, 0, 0), (.ireturn, 97, 0, 0, 0)]
abbrev kX1_thumbs : List (Nat × List xE) := [(0, bX1_thumbs_0), (26, bX1_thumbs_26), (30, bX1_thumbs_30), (86, bX1_thumbs_86), (87, bX1_thumbs_87), (95, bX1_thumbs_95)]
abbrev lX1_thumbs : List (Nat × Nat × Nat × xS) := [(2, 1, 6, xm_this 0 S_X1_needAct), (1, 0, 0, xm_this 7 S_X10_alive), (4, 0, 0, xm_this 0 S_X1_isCast)]
theorem oX1_thumbs_0  : xm_okb cI RX1 cX1_thumbs false 19 lX1_thumbs bX1_thumbs_0 0 := xo_0 dX1_thumbs_0 rfl trivial (xo_0 dX1_thumbs_1 rfl trivial (xo_c rfl (cv_X1_needAct dX1_thumbs_2 (Or.inl q1618) (by decide)) (xo_0 dX1_thumbs_5 rfl trivial (xo_0 dX1_thumbs_6 rfl trivial (xo_1 dX1_thumbs_7 rfl (xm_fg_of (Or.inl q724) (by decide) rfl (by decide) rfl rfl (Or.inl rfl) rfl) (xo_0 dX1_thumbs_10 rfl trivial (xo_0 dX1_thumbs_11 rfl trivial (xo_1 dX1_thumbs_12 rfl (xm_fg_of (Or.inl q724) (by decide) rfl (by decide) rfl rfl (Or.inl rfl) rfl) (xo_c rfl (cv_X10_alive dX1_thumbs_15 (Or.inl q802) (by decide)) (xo_c rfl (cv_X1_isCast dX1_thumbs_18 (Or.inl q814) (by decide)) (xo_0 dX1_thumbs_21 rfl rfl (xo_0 dX1_thumbs_24 rfl trivial (xo_0 dX1_thumbs_25 rfl trivial (xo_n))))))))))))))
theorem oX1_thumbs_26  : xm_okb cI RX1 cX1_thumbs false 19 lX1_thumbs bX1_thumbs_26 26 := xo_0 dX1_thumbs_26 rfl trivial (xo_0 dX1_thumbs_27 rfl trivial (xo_0 dX1_thumbs_28 rfl trivial (xo_0 dX1_thumbs_29 rfl trivial (xo_n))))
theorem oX1_thumbs_30  : xm_okb cI RX1 cX1_thumbs false 19 lX1_thumbs bX1_thumbs_30 30 := xo_0 dX1_thumbs_30 rfl trivial (xo_0 dX1_thumbs_31 rfl trivial (xo_1 dX1_thumbs_32 rfl (xm_fg_of (Or.inl q716) (by decide) rfl (by decide) rfl rfl (Or.inl rfl) rfl) (xo_0 dX1_thumbs_35 rfl (xm_fg_of (Or.inr ⟨_, q556⟩) (by decide) rfl (by decide) rfl rfl (Or.inl rfl) rfl) (xo_0 dX1_thumbs_38 rfl rfl (xo_0 dX1_thumbs_41 rfl trivial (xo_0 dX1_thumbs_42 rfl trivial (xo_1 dX1_thumbs_43 rfl (xm_fg_of (Or.inl q724) (by decide) rfl (by decide) rfl rfl (Or.inl rfl) rfl) (xo_1 dX1_thumbs_46 rfl (xm_fg_of (Or.inr ⟨_, q663⟩) (by decide) rfl (by decide) rfl rfl (Or.inl rfl) rfl) (xo_0 dX1_thumbs_49 rfl trivial (xo_0 dX1_thumbs_50 rfl trivial (xo_0 dX1_thumbs_51 rfl trivial (xo_0 dX1_thumbs_52 rfl rfl (xo_0 dX1_thumbs_55 rfl trivial (xo_0 dX1_thumbs_56 rfl trivial (xo_1 dX1_thumbs_57 rfl (xm_fg_of (Or.inl q724) (by decide) rfl (by decide) rfl rfl (Or.inl rfl) rfl) (xo_0 dX1_thumbs_60 rfl trivial (xo_0 dX1_thumbs_61 rfl trivial (xo_1 dX1_thumbs_62 rfl (xm_fg_of (Or.inl q724) (by decide) rfl (by decide) rfl rfl (Or.inl rfl) rfl) (xo_c rfl (cv_X10_alive dX1_thumbs_65 (Or.inl q802) (by decide)) (xo_0 dX1_thumbs_68 rfl trivial (xo_0 dX1_thumbs_69 rfl trivial (xo_0 dX1_thumbs_70 rfl trivial (xo_0 dX1_thumbs_71 rfl trivial (xo_0 dX1_thumbs_72 rfl trivial (xo_0 dX1_thumbs_73 rfl trivial (xo_c rfl (cv_X1_isCast dX1_thumbs_74 (Or.inl q814) (by decide)) (xo_0 dX1_thumbs_77 rfl rfl (xo_0 dX1_thumbs_80 rfl trivial (xo_0 dX1_thumbs_81 rfl trivial (xo_0 dX1_thumbs_82 rfl trivial (xo_0 dX1_thumbs_83 rfl rfl (xo_n))))))))))))))))))))))))))))))))
theorem oX1_thumbs_86  : xm_okb cI RX1 cX1_thumbs false 19 lX1_thumbs bX1_thumbs_86 86 := xo_0 dX1_thumbs_86 rfl trivial (xo_n)
theorem oX1_thumbs_87  : xm_okb cI RX1 cX1_thumbs false 19 lX1_thumbs bX1_thumbs_87 87 := xo_0 dX1_thumbs_87 rfl trivial (xo_0 dX1_thumbs_88 rfl trivial (xo_0 dX1_thumbs_89 rfl trivial (xo_0 dX1_thumbs_92 rfl rfl (xo_n))))
theorem oX1_thumbs_95  : xm_okb cI RX1 cX1_thumbs false 19 lX1_thumbs bX1_thumbs_95 95 := xo_0 dX1_thumbs_95 rfl trivial (xo_0 dX1_thumbs_96 rfl trivial (xo_n))
theorem oX1_thumbs  : ∀ q ∈ kX1_thumbs, xm_okb cI RX1 cX1_thumbs false 19 lX1_thumbs q.2 q.1 := by
  intro q hq
  simp only [List.mem_cons, List.not_mem_nil, or_false] at hq
  rcases hq with rfl | rfl | rfl | rfl | rfl | rfl
  · exact oX1_thumbs_0  
  · exact oX1_thumbs_26  
  · exact oX1_thumbs_30  
  · exact oX1_thumbs_86  
  · exact oX1_thumbs_87  
  · exact oX1_thumbs_95  
def S_X1_thumbs : xS := cU fun as P Z I Q QX => ∃ a L, as = [.ref 0, .int a] ∧ c_good P Z I L ∧ g_ok (cG P I L) ∧ c_P P Z L (cG P I L) Q QX (q_thumbs (cG P I L) a)
theorem body_X1_thumbs : xm_Body 4 0 1 6 [] lX1_thumbs kX1_thumbs S_X1_thumbs := by
  intro X avs w Q QX hX0 hS
  have hG := xm_go [] hX0
  have hX := xm_go [30] hX0
  clear hX0
  obtain ⟨P, Z, I, rfl, a, L, rfl, hg, hk0, hQ⟩ := hS
  have hok := hg.ok
  obtain ⟨hn, h9, hm, h8⟩ := id hok
  have h5 := c_5 (P := P)
  have hi := hg.now.2.2.1
  obtain ⟨h6, hs, hc, hc2⟩ := id hg.ls
  refine ⟨rfl, ?_⟩
  repeat' (first
    | ((with_reducible refine @And.intro (vp_in _ _) _ ?_ ?_); (· (first | with_reducible assumption | ((with_reducible refine t_vin ?_); decide) | ((with_reducible refine vp_in_nI ?_ ?_) <;> first | omega | decide) | (simp (disch := omega) only [xl_n, xl_m, nI_dec, nI_sb, nI_add, pk_mul]; (with_reducible refine vp_in_nI ?_ ?_) <;> first | omega | decide))); (conv => whnf))
    | (refine And.intro (by first | with_reducible assumption | exact (show cL _ _ = _ from rfl) | decide) ?_; (conv => whnf))
    | ((with_reducible refine @And.intro (_ = _) _ ?_ ?_); (· rfl); (conv => whnf))
    | ((with_reducible refine @And.intro (@LE.le Nat _ _ _) _ ?_ ?_); (· (first | exact Nat.zero_le _ | exact Nat.le_of_ble_eq_true rfl | omega)); (conv => whnf))
    | ((with_reducible refine @And.intro (@LT.lt Nat _ _ _) _ ?_ ?_); (· omega); (conv => whnf))
    | ((with_reducible refine @And.intro (∃ _, _ = _) _ ?_ ?_); (· exact ⟨_, rfl⟩); (conv => whnf))
    | ((with_reducible refine @And.intro (_ ∨ _) _ ?_ ?_); (· (first | exact Or.inl rfl | exact Or.inr rfl | exact t_b01 _ | assumption)); (conv => whnf))
    | ((with_reducible refine @And.intro (¬ (_ = _)) _ ?_ ?_); (· first | assumption | (with_reducible assumption)); (conv => whnf))
    | (refine hX _ _ _ _ _ _ ?_; (conv => whnf); fail_if_success show False)
    | (rw [c_si]; (conv => whnf))
    | (refine ⟨_, rfl, ?_⟩; (conv => whnf))
    | (refine ⟨_, _, rfl, ?_⟩; (conv => whnf))
    | (refine ⟨_, _, _, rfl, ?_⟩; (conv => whnf))
    | (refine ⟨_, _, _, _, rfl, ?_⟩; (conv => whnf))
    | (refine ⟨a,rfl,hs,h6,?_⟩; (conv => whnf))
    | fail)
  refine ⟨fun e => ?_, fun e x hx => ?_⟩
  · obtain ⟨p, hp, rfl⟩ := t_in_of (by omega) e
    have f : g_isA (cG P I L) (nI p) = true := e
    rw [q_thumbs, f, g_ck_t, nI_clamp (by omega)] at hQ
    have loop : ¬ g_nowc (cG P I L) p = [] → ∀ k, k ≤ c_h I → ∀ M, c_cf I M → X 30 [some (.ref 0), some (.int (nI p)), some (.int (t_or k fun h => t_has (g_alive (cK I L) (cA I 5)) h && !g_is (g_casts (cG P I L) (cA I 5) (g_alive (cK I L) (cA I 5) &&& (t_bit h ^^^ nM)) p))), some (.int (nI k))] [] (cW P Z M) 0 0 := by
      intro hne
      rw [if_neg hne] at hQ
      refine t_for fun k h1 ih M hM => ?_
      have hgM := hM.sp.good hg
      have eG := hM.sp.G hg
      have hokM := hgM.ok
      have hkM : g_ok (cG P M L) := by rw [eG]; exact hk0
      have hnM : M 1 11 = nI (c_h I) := by rw [hM.1 1 (by omega) (by omega) (by omega)]; exact hn
      have hiM := hgM.now.2.2.1
      have ih := fun q => ih (k + 1) (by omega) q
      refine hG _ _ _ _ _ _ ?_
      (conv => whnf)
      repeat' (first
        | ((with_reducible refine @And.intro (vp_in _ _) _ ?_ ?_); (· (first | with_reducible assumption | ((with_reducible refine t_vin ?_); decide) | ((with_reducible refine vp_in_nI ?_ ?_) <;> first | omega | decide) | (simp (disch := omega) only [xl_n, xl_m, nI_dec, nI_sb, nI_add, pk_mul]; (with_reducible refine vp_in_nI ?_ ?_) <;> first | omega | decide))); (conv => whnf))
        | (refine And.intro (by first | with_reducible assumption | exact (show cL _ _ = _ from rfl) | decide) ?_; (conv => whnf))
        | ((with_reducible refine @And.intro (_ = _) _ ?_ ?_); (· rfl); (conv => whnf))
        | ((with_reducible refine @And.intro (@LE.le Nat _ _ _) _ ?_ ?_); (· (first | exact Nat.zero_le _ | exact Nat.le_of_ble_eq_true rfl | omega)); (conv => whnf))
        | ((with_reducible refine @And.intro (@LT.lt Nat _ _ _) _ ?_ ?_); (· omega); (conv => whnf))
        | ((with_reducible refine @And.intro (∃ _, _ = _) _ ?_ ?_); (· exact ⟨_, rfl⟩); (conv => whnf))
        | ((with_reducible refine @And.intro (_ ∨ _) _ ?_ ?_); (· (first | exact Or.inl rfl | exact Or.inr rfl | exact t_b01 _ | assumption)); (conv => whnf))
        | ((with_reducible refine @And.intro (¬ (_ = _)) _ ?_ ?_); (· first | assumption | (with_reducible assumption)); (conv => whnf))
        | (refine hX _ _ _ _ _ _ ?_; (conv => whnf); fail_if_success show False)
        | (rw [c_si]; (conv => whnf))
        | (refine ⟨_, rfl, ?_⟩; (conv => whnf))
        | (refine ⟨_, _, rfl, ?_⟩; (conv => whnf))
        | (refine ⟨_, _, _, rfl, ?_⟩; (conv => whnf))
        | (refine ⟨_, _, _, _, rfl, ?_⟩; (conv => whnf))
        | fail)
      refine And.intro (fun c => ?_) (fun c => ?_) <;> (conv => whnf)
      · have : k = c_h I := Nat.le_antisymm h1 (t_kge hnM c (by omega) (by omega))
        subst this
        clear ih
        repeat' (first
          | ((with_reducible refine @And.intro (vp_in _ _) _ ?_ ?_); (· (first | with_reducible assumption | ((with_reducible refine t_vin ?_); decide) | ((with_reducible refine vp_in_nI ?_ ?_) <;> first | omega | decide) | (simp (disch := omega) only [xl_n, xl_m, nI_dec, nI_sb, nI_add, pk_mul]; (with_reducible refine vp_in_nI ?_ ?_) <;> first | omega | decide))); (conv => whnf))
          | (refine And.intro (by first | with_reducible assumption | exact (show cL _ _ = _ from rfl) | decide) ?_; (conv => whnf))
          | ((with_reducible refine @And.intro (_ = _) _ ?_ ?_); (· rfl); (conv => whnf))
          | ((with_reducible refine @And.intro (@LE.le Nat _ _ _) _ ?_ ?_); (· (first | exact Nat.zero_le _ | exact Nat.le_of_ble_eq_true rfl | omega)); (conv => whnf))
          | ((with_reducible refine @And.intro (@LT.lt Nat _ _ _) _ ?_ ?_); (· omega); (conv => whnf))
          | ((with_reducible refine @And.intro (∃ _, _ = _) _ ?_ ?_); (· exact ⟨_, rfl⟩); (conv => whnf))
          | ((with_reducible refine @And.intro (_ ∨ _) _ ?_ ?_); (· (first | exact Or.inl rfl | exact Or.inr rfl | exact t_b01 _ | assumption)); (conv => whnf))
          | ((with_reducible refine @And.intro (¬ (_ = _)) _ ?_ ?_); (· first | assumption | (with_reducible assumption)); (conv => whnf))
          | (refine hX _ _ _ _ _ _ ?_; (conv => whnf); fail_if_success show False)
          | (rw [c_si]; (conv => whnf))
          | (refine ⟨_, rfl, ?_⟩; (conv => whnf))
          | (refine ⟨_, _, rfl, ?_⟩; (conv => whnf))
          | (refine ⟨_, _, _, rfl, ?_⟩; (conv => whnf))
          | (refine ⟨_, _, _, _, rfl, ?_⟩; (conv => whnf))
          | (refine And.intro (fun c => ?_) (fun c => ?_) <;> (first | (exact absurd c (by decide +kernel)) | (conv => whnf)))
          | fail)
        refine c_ask hQ hg hM.sp ?_
        exact g_thumbs_eq (G := cG P I L) h9 (c_al_a (n := c_h I) h9) hne
      · have hk : k < c_h I := t_klt hnM c (by omega)
        have ih := ih (by omega)
        rw [t_or_s] at ih
        have e50 : M (10 * 5) (nI k).toNatClampNeg = I (10 * 5) k := by rw [nI_clamp (by omega), hM.1 _ (by omega) (by omega) (by omega)]
        have eal : t_has (g_alive (cK I L) (cA I 5)) k = decide (I (10 * 5) k = nI 1) := by
          rw [← c_al (L := L) hi, th_OR (by omega) (by omega), decide_eq_true hk, Bool.true_and]
        rw [eal] at ih
        by_cases a1 : I (10 * 5) k = nI 1
        · have d1 : M (10 * 5) (nI k).toNatClampNeg = Int32.ofInt 1 := by rw [e50, a1, xl_n.2.1]
          rw [decide_eq_true a1, Bool.true_and] at ih
          repeat' (first
            | ((with_reducible refine @And.intro (vp_in _ _) _ ?_ ?_); (· (first | with_reducible assumption | ((with_reducible refine t_vin ?_); decide) | ((with_reducible refine vp_in_nI ?_ ?_) <;> first | omega | decide) | (simp (disch := omega) only [xl_n, xl_m, nI_dec, nI_sb, nI_add, pk_mul]; (with_reducible refine vp_in_nI ?_ ?_) <;> first | omega | decide))); (conv => whnf))
            | (refine And.intro (by first | with_reducible assumption | exact (show cL _ _ = _ from rfl) | decide) ?_; (conv => whnf))
            | ((with_reducible refine @And.intro (_ = _) _ ?_ ?_); (· rfl); (conv => whnf))
            | ((with_reducible refine @And.intro (@LE.le Nat _ _ _) _ ?_ ?_); (· (first | exact Nat.zero_le _ | exact Nat.le_of_ble_eq_true rfl | omega)); (conv => whnf))
            | ((with_reducible refine @And.intro (@LT.lt Nat _ _ _) _ ?_ ?_); (· omega); (conv => whnf))
            | ((with_reducible refine @And.intro (∃ _, _ = _) _ ?_ ?_); (· exact ⟨_, rfl⟩); (conv => whnf))
            | ((with_reducible refine @And.intro (_ ∨ _) _ ?_ ?_); (· (first | exact Or.inl rfl | exact Or.inr rfl | exact t_b01 _ | assumption)); (conv => whnf))
            | ((with_reducible refine @And.intro (¬ (_ = _)) _ ?_ ?_); (· first | assumption | (with_reducible assumption)); (conv => whnf))
            | (refine hX _ _ _ _ _ _ ?_; (conv => whnf); fail_if_success show False)
            | (rw [c_si]; (conv => whnf))
            | (refine ⟨_, rfl, ?_⟩; (conv => whnf))
            | (refine ⟨_, _, rfl, ?_⟩; (conv => whnf))
            | (refine ⟨_, _, _, rfl, ?_⟩; (conv => whnf))
            | (refine ⟨_, _, _, _, rfl, ?_⟩; (conv => whnf))
            | (rw [c_tl h5]; (conv => whnf))
            | (rw [c_t7 h5]; (conv => whnf))
            | (rw [c_tf h5 (by decide)]; (conv => whnf))
            | (rw [c_t0 h5]; (conv => whnf))
            | (rw [c_t1 h5]; (conv => whnf))
            | (rw [c_t2 h5]; (conv => whnf))
            | (rw [c_t3 h5]; (conv => whnf))
            | (rw [c_t4 h5]; (conv => whnf))
            | (rw [c_t5 h5]; (conv => whnf))
            | (refine And.intro ⟨_, c_tl h5⟩ ?_; (conv => whnf))
            | fail)
          refine And.intro (fun z => absurd d1 z) (fun _ => ?_)
          (conv => whnf)
          repeat' (first
            | ((with_reducible refine @And.intro (vp_in _ _) _ ?_ ?_); (· (first | with_reducible assumption | ((with_reducible refine t_vin ?_); decide) | ((with_reducible refine vp_in_nI ?_ ?_) <;> first | omega | decide) | (simp (disch := omega) only [xl_n, xl_m, nI_dec, nI_sb, nI_add, pk_mul]; (with_reducible refine vp_in_nI ?_ ?_) <;> first | omega | decide))); (conv => whnf))
            | (refine And.intro (by first | with_reducible assumption | exact (show cL _ _ = _ from rfl) | decide) ?_; (conv => whnf))
            | ((with_reducible refine @And.intro (_ = _) _ ?_ ?_); (· rfl); (conv => whnf))
            | ((with_reducible refine @And.intro (@LE.le Nat _ _ _) _ ?_ ?_); (· (first | exact Nat.zero_le _ | exact Nat.le_of_ble_eq_true rfl | omega)); (conv => whnf))
            | ((with_reducible refine @And.intro (@LT.lt Nat _ _ _) _ ?_ ?_); (· omega); (conv => whnf))
            | ((with_reducible refine @And.intro (∃ _, _ = _) _ ?_ ?_); (· exact ⟨_, rfl⟩); (conv => whnf))
            | ((with_reducible refine @And.intro (_ ∨ _) _ ?_ ?_); (· (first | exact Or.inl rfl | exact Or.inr rfl | exact t_b01 _ | assumption)); (conv => whnf))
            | ((with_reducible refine @And.intro (¬ (_ = _)) _ ?_ ?_); (· first | assumption | (with_reducible assumption)); (conv => whnf))
            | (refine hX _ _ _ _ _ _ ?_; (conv => whnf); fail_if_success show False)
            | (rw [c_si]; (conv => whnf))
            | (refine ⟨_, rfl, ?_⟩; (conv => whnf))
            | (refine ⟨_, _, rfl, ?_⟩; (conv => whnf))
            | (refine ⟨_, _, _, rfl, ?_⟩; (conv => whnf))
            | (refine ⟨_, _, _, _, rfl, ?_⟩; (conv => whnf))
            | (refine ⟨5,rfl,h5,hokM,hiM,?_⟩; (conv => whnf))
            | (refine And.intro (fun c => ?_) (fun c => ?_) <;> (first | (exact absurd c (by decide +kernel)) | (conv => whnf)))
            | fail)
          refine ⟨5, p, L, _, rfl, h5, hgM, hkM, hp, c_al_c hokM.2.1, fun N hN _ => ?_⟩
          rw [c_al (L := L) hiM, eG, hM.A (by omega) (by omega) (by omega), hM.sp.kp.K hok hg.2.2.2.2.1, xl_m, xl_n.2.1]
          have ih := ih N (hM.tr hN)
          have ebt : t_bit k = nI 1 <<< (nI k &&& 31) := rfl
          rw [ebt] at ih
          by_cases q : g_is (g_casts (cG P I L) (cA I 5) (g_alive (cK I L) (cA I 5) &&& ((nI 1 <<< (nI k &&& 31)) ^^^ nM)) p) = true
          · have d2 : ¬ t_b (g_is (g_casts (cG P I L) (cA I 5) (g_alive (cK I L) (cA I 5) &&& ((nI 1 <<< (nI k &&& 31)) ^^^ nM)) p)) = 0 := by rw [q]; decide +kernel
            rw [q, Bool.not_true, if_neg (by decide)] at ih
            (conv => whnf)
            repeat' (first
              | ((with_reducible refine @And.intro (vp_in _ _) _ ?_ ?_); (· (first | with_reducible assumption | ((with_reducible refine t_vin ?_); decide) | ((with_reducible refine vp_in_nI ?_ ?_) <;> first | omega | decide) | (simp (disch := omega) only [xl_n, xl_m, nI_dec, nI_sb, nI_add, pk_mul]; (with_reducible refine vp_in_nI ?_ ?_) <;> first | omega | decide))); (conv => whnf))
              | (refine And.intro (by first | with_reducible assumption | exact (show cL _ _ = _ from rfl) | decide) ?_; (conv => whnf))
              | ((with_reducible refine @And.intro (_ = _) _ ?_ ?_); (· rfl); (conv => whnf))
              | ((with_reducible refine @And.intro (@LE.le Nat _ _ _) _ ?_ ?_); (· (first | exact Nat.zero_le _ | exact Nat.le_of_ble_eq_true rfl | omega)); (conv => whnf))
              | ((with_reducible refine @And.intro (@LT.lt Nat _ _ _) _ ?_ ?_); (· omega); (conv => whnf))
              | ((with_reducible refine @And.intro (∃ _, _ = _) _ ?_ ?_); (· exact ⟨_, rfl⟩); (conv => whnf))
              | ((with_reducible refine @And.intro (_ ∨ _) _ ?_ ?_); (· (first | exact Or.inl rfl | exact Or.inr rfl | exact t_b01 _ | assumption)); (conv => whnf))
              | ((with_reducible refine @And.intro (¬ (_ = _)) _ ?_ ?_); (· first | assumption | (with_reducible assumption)); (conv => whnf))
              | (refine hX _ _ _ _ _ _ ?_; (conv => whnf); fail_if_success show False)
              | (rw [c_si]; (conv => whnf))
              | (refine ⟨_, rfl, ?_⟩; (conv => whnf))
              | (refine ⟨_, _, rfl, ?_⟩; (conv => whnf))
              | (refine ⟨_, _, _, rfl, ?_⟩; (conv => whnf))
              | (refine ⟨_, _, _, _, rfl, ?_⟩; (conv => whnf))
              | (refine And.intro (fun c => ?_) (fun c => ?_) <;> (first | (exact absurd c (by decide +kernel)) | (exact absurd c (by assumption)) | (exact False.elim (c (by assumption))) | (conv => whnf)))
              | fail)
            clear hX hG hQ
            simp (disch := omega) only [xl_n, xl_m, nI_dec, nI_sb, xl_0, xl_1, cW_i, Nat.add_zero, Nat.reduceAdd, Nat.reduceMul, t_bn0, t_bn1, Classical.not_not, t_lt, nI_add, nI_1, pk_mul, nI_clamp, c_si, nI_eq, nI_leI, nM_ne, nM_ne, xm_set, xm_lv0, xm_psh] at *
            exact ih
          · rw [Bool.not_eq_true] at q
            have d2 : t_b (g_is (g_casts (cG P I L) (cA I 5) (g_alive (cK I L) (cA I 5) &&& ((nI 1 <<< (nI k &&& 31)) ^^^ nM)) p)) = 0 := by rw [q]; rfl
            rw [q, Bool.not_false, if_pos rfl] at ih
            (conv => whnf)
            repeat' (first
              | ((with_reducible refine @And.intro (vp_in _ _) _ ?_ ?_); (· (first | with_reducible assumption | ((with_reducible refine t_vin ?_); decide) | ((with_reducible refine vp_in_nI ?_ ?_) <;> first | omega | decide) | (simp (disch := omega) only [xl_n, xl_m, nI_dec, nI_sb, nI_add, pk_mul]; (with_reducible refine vp_in_nI ?_ ?_) <;> first | omega | decide))); (conv => whnf))
              | (refine And.intro (by first | with_reducible assumption | exact (show cL _ _ = _ from rfl) | decide) ?_; (conv => whnf))
              | ((with_reducible refine @And.intro (_ = _) _ ?_ ?_); (· rfl); (conv => whnf))
              | ((with_reducible refine @And.intro (@LE.le Nat _ _ _) _ ?_ ?_); (· (first | exact Nat.zero_le _ | exact Nat.le_of_ble_eq_true rfl | omega)); (conv => whnf))
              | ((with_reducible refine @And.intro (@LT.lt Nat _ _ _) _ ?_ ?_); (· omega); (conv => whnf))
              | ((with_reducible refine @And.intro (∃ _, _ = _) _ ?_ ?_); (· exact ⟨_, rfl⟩); (conv => whnf))
              | ((with_reducible refine @And.intro (_ ∨ _) _ ?_ ?_); (· (first | exact Or.inl rfl | exact Or.inr rfl | exact t_b01 _ | assumption)); (conv => whnf))
              | ((with_reducible refine @And.intro (¬ (_ = _)) _ ?_ ?_); (· first | assumption | (with_reducible assumption)); (conv => whnf))
              | (refine hX _ _ _ _ _ _ ?_; (conv => whnf); fail_if_success show False)
              | (rw [c_si]; (conv => whnf))
              | (refine ⟨_, rfl, ?_⟩; (conv => whnf))
              | (refine ⟨_, _, rfl, ?_⟩; (conv => whnf))
              | (refine ⟨_, _, _, rfl, ?_⟩; (conv => whnf))
              | (refine ⟨_, _, _, _, rfl, ?_⟩; (conv => whnf))
              | (refine And.intro (fun c => ?_) (fun c => ?_) <;> (first | (exact absurd c (by decide +kernel)) | (exact absurd c (by assumption)) | (exact False.elim (c (by assumption))) | (conv => whnf)))
              | fail)
            clear hX hG hQ
            simp (disch := omega) only [xl_n, xl_m, nI_dec, nI_sb, xl_0, xl_1, cW_i, Nat.add_zero, Nat.reduceAdd, Nat.reduceMul, t_bn0, t_bn1, Classical.not_not, t_lt, nI_add, nI_1, pk_mul, nI_clamp, c_si, nI_eq, nI_leI, nM_ne, nM_ne, xm_set, xm_lv0, xm_psh] at *
            exact ih
        · have d1 : ¬ M (10 * 5) (nI k).toNatClampNeg = Int32.ofInt 1 := by rw [e50, xl_n.2.1]; exact a1
          rw [decide_eq_false a1, Bool.false_and, if_neg (by decide)] at ih
          have ih := ih M hM
          repeat' (first
            | ((with_reducible refine @And.intro (vp_in _ _) _ ?_ ?_); (· (first | with_reducible assumption | ((with_reducible refine t_vin ?_); decide) | ((with_reducible refine vp_in_nI ?_ ?_) <;> first | omega | decide) | (simp (disch := omega) only [xl_n, xl_m, nI_dec, nI_sb, nI_add, pk_mul]; (with_reducible refine vp_in_nI ?_ ?_) <;> first | omega | decide))); (conv => whnf))
            | (refine And.intro (by first | with_reducible assumption | exact (show cL _ _ = _ from rfl) | decide) ?_; (conv => whnf))
            | ((with_reducible refine @And.intro (_ = _) _ ?_ ?_); (· rfl); (conv => whnf))
            | ((with_reducible refine @And.intro (@LE.le Nat _ _ _) _ ?_ ?_); (· (first | exact Nat.zero_le _ | exact Nat.le_of_ble_eq_true rfl | omega)); (conv => whnf))
            | ((with_reducible refine @And.intro (@LT.lt Nat _ _ _) _ ?_ ?_); (· omega); (conv => whnf))
            | ((with_reducible refine @And.intro (∃ _, _ = _) _ ?_ ?_); (· exact ⟨_, rfl⟩); (conv => whnf))
            | ((with_reducible refine @And.intro (_ ∨ _) _ ?_ ?_); (· (first | exact Or.inl rfl | exact Or.inr rfl | exact t_b01 _ | assumption)); (conv => whnf))
            | ((with_reducible refine @And.intro (¬ (_ = _)) _ ?_ ?_); (· first | assumption | (with_reducible assumption)); (conv => whnf))
            | (refine hX _ _ _ _ _ _ ?_; (conv => whnf); fail_if_success show False)
            | (rw [c_si]; (conv => whnf))
            | (refine ⟨_, rfl, ?_⟩; (conv => whnf))
            | (refine ⟨_, _, rfl, ?_⟩; (conv => whnf))
            | (refine ⟨_, _, _, rfl, ?_⟩; (conv => whnf))
            | (refine ⟨_, _, _, _, rfl, ?_⟩; (conv => whnf))
            | (rw [c_tl h5]; (conv => whnf))
            | (rw [c_t7 h5]; (conv => whnf))
            | (rw [c_tf h5 (by decide)]; (conv => whnf))
            | (rw [c_t0 h5]; (conv => whnf))
            | (rw [c_t1 h5]; (conv => whnf))
            | (rw [c_t2 h5]; (conv => whnf))
            | (rw [c_t3 h5]; (conv => whnf))
            | (rw [c_t4 h5]; (conv => whnf))
            | (rw [c_t5 h5]; (conv => whnf))
            | (refine And.intro ⟨_, c_tl h5⟩ ?_; (conv => whnf))
            | (refine And.intro (fun c => ?_) (fun c => ?_) <;> (first | (exact absurd c (by decide +kernel)) | (exact absurd c (by assumption)) | (exact False.elim (c (by assumption))) | (conv => whnf)))
            | fail)
          clear hX hG hQ
          simp (disch := omega) only [xl_n, xl_m, nI_dec, nI_sb, xl_0, xl_1, cW_i, Nat.add_zero, Nat.reduceAdd, Nat.reduceMul, t_bn0, t_bn1, Classical.not_not, t_lt, nI_add, nI_1, pk_mul, nI_clamp, c_si, nI_eq, nI_leI, nM_ne, nM_ne, xm_set, xm_lv0, xm_psh] at *
          exact ih
    (conv => whnf)
    repeat' (first
      | ((with_reducible refine @And.intro (vp_in _ _) _ ?_ ?_); (· (first | with_reducible assumption | ((with_reducible refine t_vin ?_); decide) | ((with_reducible refine vp_in_nI ?_ ?_) <;> first | omega | decide) | (simp (disch := omega) only [xl_n, xl_m, nI_dec, nI_sb, nI_add, pk_mul]; (with_reducible refine vp_in_nI ?_ ?_) <;> first | omega | decide))); (conv => whnf))
      | (refine And.intro (by first | with_reducible assumption | exact (show cL _ _ = _ from rfl) | decide) ?_; (conv => whnf))
      | ((with_reducible refine @And.intro (_ = _) _ ?_ ?_); (· rfl); (conv => whnf))
      | ((with_reducible refine @And.intro (@LE.le Nat _ _ _) _ ?_ ?_); (· (first | exact Nat.zero_le _ | exact Nat.le_of_ble_eq_true rfl | omega)); (conv => whnf))
      | ((with_reducible refine @And.intro (@LT.lt Nat _ _ _) _ ?_ ?_); (· omega); (conv => whnf))
      | ((with_reducible refine @And.intro (∃ _, _ = _) _ ?_ ?_); (· exact ⟨_, rfl⟩); (conv => whnf))
      | ((with_reducible refine @And.intro (_ ∨ _) _ ?_ ?_); (· (first | exact Or.inl rfl | exact Or.inr rfl | exact t_b01 _ | assumption)); (conv => whnf))
      | ((with_reducible refine @And.intro (¬ (_ = _)) _ ?_ ?_); (· first | assumption | (with_reducible assumption)); (conv => whnf))
      | (refine hX _ _ _ _ _ _ ?_; (conv => whnf); fail_if_success show False)
      | (rw [c_si]; (conv => whnf))
      | (refine ⟨_, rfl, ?_⟩; (conv => whnf))
      | (refine ⟨_, _, rfl, ?_⟩; (conv => whnf))
      | (refine ⟨_, _, _, rfl, ?_⟩; (conv => whnf))
      | (refine ⟨_, _, _, _, rfl, ?_⟩; (conv => whnf))
      | (refine ⟨5,rfl,h5,hok,hi,?_⟩; (conv => whnf))
      | (refine And.intro (fun c => ?_) (fun c => ?_) <;> (first | (exact absurd c (by decide +kernel)) | (conv => whnf)))
      | fail)
    refine ⟨5, p, L, _, rfl, h5, hg, hk0, hp, c_al_a h9, fun M hM _ => ?_⟩
    rw [c_al (L := L) hi]
    have en : g_is (g_casts (cG P I L) (cA I 5) (g_alive (cK I L) (cA I 5)) p) = g_is (g_nowc (cG P I L) p) := rfl
    rw [en]
    by_cases q : g_is (g_nowc (cG P I L) p) = true
    · have d2 : ¬ t_b (g_is (g_nowc (cG P I L) p)) = 0 := by rw [q]; decide +kernel
      have fin := loop (g_is_t.mp q) 0 (Nat.zero_le _) M hM
      clear loop
      (conv => whnf)
      repeat' (first
        | ((with_reducible refine @And.intro (vp_in _ _) _ ?_ ?_); (· (first | with_reducible assumption | ((with_reducible refine t_vin ?_); decide) | ((with_reducible refine vp_in_nI ?_ ?_) <;> first | omega | decide) | (simp (disch := omega) only [xl_n, xl_m, nI_dec, nI_sb, nI_add, pk_mul]; (with_reducible refine vp_in_nI ?_ ?_) <;> first | omega | decide))); (conv => whnf))
        | (refine And.intro (by first | with_reducible assumption | exact (show cL _ _ = _ from rfl) | decide) ?_; (conv => whnf))
        | ((with_reducible refine @And.intro (_ = _) _ ?_ ?_); (· rfl); (conv => whnf))
        | ((with_reducible refine @And.intro (@LE.le Nat _ _ _) _ ?_ ?_); (· (first | exact Nat.zero_le _ | exact Nat.le_of_ble_eq_true rfl | omega)); (conv => whnf))
        | ((with_reducible refine @And.intro (@LT.lt Nat _ _ _) _ ?_ ?_); (· omega); (conv => whnf))
        | ((with_reducible refine @And.intro (∃ _, _ = _) _ ?_ ?_); (· exact ⟨_, rfl⟩); (conv => whnf))
        | ((with_reducible refine @And.intro (_ ∨ _) _ ?_ ?_); (· (first | exact Or.inl rfl | exact Or.inr rfl | exact t_b01 _ | assumption)); (conv => whnf))
        | ((with_reducible refine @And.intro (¬ (_ = _)) _ ?_ ?_); (· first | assumption | (with_reducible assumption)); (conv => whnf))
        | (refine hX _ _ _ _ _ _ ?_; (conv => whnf); fail_if_success show False)
        | (rw [c_si]; (conv => whnf))
        | (refine ⟨_, rfl, ?_⟩; (conv => whnf))
        | (refine ⟨_, _, rfl, ?_⟩; (conv => whnf))
        | (refine ⟨_, _, _, rfl, ?_⟩; (conv => whnf))
        | (refine ⟨_, _, _, _, rfl, ?_⟩; (conv => whnf))
        | (refine And.intro (fun c => ?_) (fun c => ?_) <;> (first | (exact absurd c (by decide +kernel)) | (exact absurd c (by assumption)) | (exact False.elim (c (by assumption))) | (conv => whnf)))
        | fail)
      exact fin
    · rw [Bool.not_eq_true] at q
      have d2 : t_b (g_is (g_nowc (cG P I L) p)) = 0 := by rw [q]; rfl
      rw [if_pos (g_is_f.mp q)] at hQ
      clear loop
      (conv => whnf)
      repeat' (first
        | ((with_reducible refine @And.intro (vp_in _ _) _ ?_ ?_); (· (first | with_reducible assumption | ((with_reducible refine t_vin ?_); decide) | ((with_reducible refine vp_in_nI ?_ ?_) <;> first | omega | decide) | (simp (disch := omega) only [xl_n, xl_m, nI_dec, nI_sb, nI_add, pk_mul]; (with_reducible refine vp_in_nI ?_ ?_) <;> first | omega | decide))); (conv => whnf))
        | (refine And.intro (by first | with_reducible assumption | exact (show cL _ _ = _ from rfl) | decide) ?_; (conv => whnf))
        | ((with_reducible refine @And.intro (_ = _) _ ?_ ?_); (· rfl); (conv => whnf))
        | ((with_reducible refine @And.intro (@LE.le Nat _ _ _) _ ?_ ?_); (· (first | exact Nat.zero_le _ | exact Nat.le_of_ble_eq_true rfl | omega)); (conv => whnf))
        | ((with_reducible refine @And.intro (@LT.lt Nat _ _ _) _ ?_ ?_); (· omega); (conv => whnf))
        | ((with_reducible refine @And.intro (∃ _, _ = _) _ ?_ ?_); (· exact ⟨_, rfl⟩); (conv => whnf))
        | ((with_reducible refine @And.intro (_ ∨ _) _ ?_ ?_); (· (first | exact Or.inl rfl | exact Or.inr rfl | exact t_b01 _ | assumption)); (conv => whnf))
        | ((with_reducible refine @And.intro (¬ (_ = _)) _ ?_ ?_); (· first | assumption | (with_reducible assumption)); (conv => whnf))
        | (refine hX _ _ _ _ _ _ ?_; (conv => whnf); fail_if_success show False)
        | (rw [c_si]; (conv => whnf))
        | (refine ⟨_, rfl, ?_⟩; (conv => whnf))
        | (refine ⟨_, _, rfl, ?_⟩; (conv => whnf))
        | (refine ⟨_, _, _, rfl, ?_⟩; (conv => whnf))
        | (refine ⟨_, _, _, _, rfl, ?_⟩; (conv => whnf))
        | (refine And.intro (fun c => ?_) (fun c => ?_) <;> (first | (exact absurd c (by decide +kernel)) | (exact absurd c (by assumption)) | (exact False.elim (c (by assumption))) | (conv => whnf)))
        | fail)
      exact c_ask hQ hg hM.sp xl_n.1
  · exact c_ref0 hQ hg e hx n1_0
theorem ct_X1_thumbs : xm_Ct cI yX1_thumbs (ws_ yX1_thumbs cX1_thumbs 4 (some .int)) 19 1 6 S_X1_thumbs := xm_enter (rt := 0) (init := false) (by decide +kernel) rfl (fun h => by cases h) (Or.inl ⟨rfl, rfl⟩) (oX1_thumbs) body_X1_thumbs
theorem cv_X1_thumbs {own : String} {cc : ByteArray} {fr pc idx : Nat} (hdg : decode cc pc = .ok (.invokevirtual idx, 3)) (hl : xm_ml own idx yX1_thumbs) (hfr : 19 < fr) : xm_CallOK cI own cc fr pc (pc + 3) 2 1 6 (xm_this 0 S_X1_thumbs) := xm_callV 0 cI_good (ct_X1_thumbs) hdg hl q1874 q1875 q116 q1876 rfl rfl (by decide +kernel) hfr (by decide)
