/-! ===== the component: give, undo, ahead, heir ===== -/
set_option maxRecDepth 100000
abbrev bX1_give_0 : List xE := [(.aload_n 0, 1, 0, 0, 0), (.iload_n 1, 2, 0, 0, 0), (.invokevirtual 238, 5, 0, 0, 9), (.aload_n 0, 6, 0, 0, 0), (.iload_n 2, 7, 0, 0, 0), (.invokevirtual 217, 10, 0, 1, 9), (.aload_n 0, 11, 0, 0, 0), (.iload_n 3, 12, 0, 0, 0), (.invokevirtual 217, 15, 0, 1, 9), (.aload_n 0, 16, 0, 0, 0), (.getfield 58, 19, 0, 5, 1), (.iload_n 1, 20, 0, 0, 0), (.iload_n 2, 21, 0, 0, 0), (.invokevirtual 303, 24, 0, 2, 9), (.ifCond .eq 15, 27, 0, 39, 0), (.aload_n 0, 28, 0, 0, 0), (.getfield 58, 31, 0, 5, 1), (.iload_n 1, 32, 0, 0, 0), (.iload_n 3, 33, 0, 0, 0), (.invokevirtual 313, 36, 0, 3, 9), (.ifCond .ne 5, 39, 0, 41, 0)]
abbrev bX1_give_39 : List xE := [(.iconst 0, 40, 0, 0, 0), (.ireturn, 41, 0, 0, 0)]
abbrev bX1_give_41 : List xE := [(.aload_n 0, 42, 0, 0, 0), (.getfield 58, 45, 0, 5, 1), (.iload_n 1, 46, 0, 0, 0), (.iload_n 2, 47, 0, 0, 0), (.invokevirtual 316, 50, 0, 4, 9), (.aload_n 0, 51, 0, 0, 0), (.getfield 58, 54, 0, 5, 1), (.iload_n 1, 55, 0, 0, 0), (.iload_n 3, 56, 0, 0, 0), (.invokevirtual 319, 59, 0, 5, 9), (.aload_n 0, 60, 0, 0, 0), (.invokevirtual 101, 63, 0, 6, 9), (.iconst 1, 64, 0, 0, 0), (.ireturn, 65, 0, 0, 0)]
abbrev kX1_give : List (Nat × List xE) := [(0, bX1_give_0), (39, bX1_give_39), (41, bX1_give_41)]
abbrev lX1_give : List (Nat × Nat × Nat × xS) := [(2, 1, 6, xm_this 0 S_X1_needPuppet), (2, 1, 6, xm_this 0 S_X1_needHand), (3, 0, 0, xm_this 7 S_X10_isOf), (3, 0, 0, xm_this 7 S_X10_may), (3, 0, 0, xm_this 7 S_X10_leaves), (3, 0, 0, xm_this 7 S_X10_takes), (1, 0, 0, xm_this 0 S_X1_keepsBase)]
theorem oX1_give_0  : xm_okb cI RX1 cX1_give false 8 lX1_give bX1_give_0 0 := xo_0 dX1_give_0 rfl trivial (xo_0 dX1_give_1 rfl trivial (xo_c rfl (cv_X1_needPuppet dX1_give_2 (Or.inl q1607) (by decide)) (xo_0 dX1_give_5 rfl trivial (xo_0 dX1_give_6 rfl trivial (xo_c rfl (cv_X1_needHand dX1_give_7 (Or.inl q1576) (by decide)) (xo_0 dX1_give_10 rfl trivial (xo_0 dX1_give_11 rfl trivial (xo_c rfl (cv_X1_needHand dX1_give_12 (Or.inl q1576) (by decide)) (xo_0 dX1_give_15 rfl trivial (xo_1 dX1_give_16 rfl (xm_fg_of (Or.inl q724) (by decide) rfl (by decide) rfl rfl (Or.inl rfl) rfl) (xo_0 dX1_give_19 rfl trivial (xo_0 dX1_give_20 rfl trivial (xo_c rfl (cv_X10_isOf dX1_give_21 (Or.inl q1693) (by decide)) (xo_0 dX1_give_24 rfl rfl (xo_0 dX1_give_27 rfl trivial (xo_1 dX1_give_28 rfl (xm_fg_of (Or.inl q724) (by decide) rfl (by decide) rfl rfl (Or.inl rfl) rfl) (xo_0 dX1_give_31 rfl trivial (xo_0 dX1_give_32 rfl trivial (xo_c rfl (cv_X10_may dX1_give_33 (Or.inl q1723) (by decide)) (xo_0 dX1_give_36 rfl rfl (xo_n)))))))))))))))))))))
theorem oX1_give_39  : xm_okb cI RX1 cX1_give false 8 lX1_give bX1_give_39 39 := xo_0 dX1_give_39 rfl trivial (xo_0 dX1_give_40 rfl trivial (xo_n))
theorem oX1_give_41  : xm_okb cI RX1 cX1_give false 8 lX1_give bX1_give_41 41 := xo_0 dX1_give_41 rfl trivial (xo_1 dX1_give_42 rfl (xm_fg_of (Or.inl q724) (by decide) rfl (by decide) rfl rfl (Or.inl rfl) rfl) (xo_0 dX1_give_45 rfl trivial (xo_0 dX1_give_46 rfl trivial (xo_c rfl (cv_X10_leaves dX1_give_47 (Or.inl q1724) (by decide)) (xo_0 dX1_give_50 rfl trivial (xo_1 dX1_give_51 rfl (xm_fg_of (Or.inl q724) (by decide) rfl (by decide) rfl rfl (Or.inl rfl) rfl) (xo_0 dX1_give_54 rfl trivial (xo_0 dX1_give_55 rfl trivial (xo_c rfl (cv_X10_takes dX1_give_56 (Or.inl q1725) (by decide)) (xo_0 dX1_give_59 rfl trivial (xo_c rfl (cv_X1_keepsBase dX1_give_60 (Or.inl q707) (by decide)) (xo_0 dX1_give_63 rfl trivial (xo_0 dX1_give_64 rfl trivial (xo_n))))))))))))))
theorem oX1_give  : ∀ q ∈ kX1_give, xm_okb cI RX1 cX1_give false 8 lX1_give q.2 q.1 := by
  intro q hq
  simp only [List.mem_cons, List.not_mem_nil, or_false] at hq
  rcases hq with rfl | rfl | rfl
  · exact oX1_give_0  
  · exact oX1_give_39  
  · exact oX1_give_41  
def S_X1_give : xS := cU fun as P Z I Q QX => ∃ a b d L, as = [.ref 0, .int a, .int b, .int d] ∧ c_good P Z I L ∧ c_P P Z L (cG P I L) Q QX (q_give (cG P I L) a b d)
theorem body_X1_give : xm_Body 4 0 3 18 [] lX1_give kX1_give S_X1_give := by
  intro X avs w Q QX hX0 hS
  have hG := xm_go [] hX0
  have hX := xm_go [39] hX0
  clear hX0
  obtain ⟨P, Z, I, rfl, a, b, d, L, rfl, hg, hQ⟩ := hS
  have hok := hg.ok
  obtain ⟨hn, h9, hm, h8⟩ := id hok
  have h5 := c_5 (P := P)
  have ht := hg.now
  refine ⟨rfl, ?_⟩
  repeat' (first
    | ((with_reducible refine @And.intro (vp_in _ _) _ ?_ ?_); (· (first | with_reducible assumption | ((with_reducible refine t_vin ?_); decide) | ((with_reducible refine vp_in_nI ?_ ?_) <;> first | omega | decide) | (simp (disch := omega) only [xl_n, xl_m, nI_dec, nI_sb, nI_add, pk_mul]; (with_reducible refine vp_in_nI ?_ ?_) <;> first | omega | decide))); (conv => whnf))
    | (refine And.intro (by first | with_reducible assumption | exact (show cL _ _ = _ from rfl) | decide) ?_; (conv => whnf))
    | ((with_reducible refine @And.intro (_ = _) _ ?_ ?_); (· rfl); (conv => whnf))
    | ((with_reducible refine @And.intro (@LE.le Nat _ _ _) _ ?_ ?_); (· (first | exact Nat.zero_le _ | exact Nat.le_of_ble_eq_true rfl | omega)); (conv => whnf))
    | ((with_reducible refine @And.intro (@LT.lt Nat _ _ _) _ ?_ ?_); (· omega); (conv => whnf))
    | ((with_reducible refine @And.intro (∃ _, _ = _) _ ?_ ?_); (· exact ⟨_, rfl⟩); (conv => whnf))
    | ((with_reducible refine @And.intro (_ ∨ _) _ ?_ ?_); (· (first | exact Or.inl rfl | exact Or.inr rfl | exact t_b01 _ | assumption)); (conv => whnf))
    | ((with_reducible refine @And.intro (¬ (_ = _)) _ ?_ ?_); (· first | assumption | (with_reducible assumption)); (conv => whnf))
    | (refine hX _ _ _ _ _ _ ?_; (conv => whnf); fail_if_success show False)
    | (rw [c_si]; (conv => whnf))
    | (refine ⟨_, rfl, ?_⟩; (conv => whnf))
    | (refine ⟨_, _, rfl, ?_⟩; (conv => whnf))
    | (refine ⟨_, _, _, rfl, ?_⟩; (conv => whnf))
    | (refine ⟨_, _, _, _, rfl, ?_⟩; (conv => whnf))
    | (refine ⟨a,rfl,hok,?_⟩; (conv => whnf))
    | (rw [c_tl h5]; (conv => whnf))
    | (rw [c_t7 h5]; (conv => whnf))
    | (rw [c_tf h5 (by decide)]; (conv => whnf))
    | (rw [c_t0 h5]; (conv => whnf))
    | (rw [c_t1 h5]; (conv => whnf))
    | (rw [c_t2 h5]; (conv => whnf))
    | (rw [c_t3 h5]; (conv => whnf))
    | (rw [c_t4 h5]; (conv => whnf))
    | (rw [c_t5 h5]; (conv => whnf))
    | (refine And.intro ⟨_, c_tl h5⟩ ?_; (conv => whnf))
    | fail)
  refine ⟨fun e => ?_, fun e x hx => ?_⟩
  · obtain ⟨p, hp, rfl⟩ := t_in_of (by omega) e
    have f : g_isP (cG P I L) (nI p) = true := e
    (conv => whnf)
    repeat' (first
      | ((with_reducible refine @And.intro (vp_in _ _) _ ?_ ?_); (· (first | with_reducible assumption | ((with_reducible refine t_vin ?_); decide) | ((with_reducible refine vp_in_nI ?_ ?_) <;> first | omega | decide) | (simp (disch := omega) only [xl_n, xl_m, nI_dec, nI_sb, nI_add, pk_mul]; (with_reducible refine vp_in_nI ?_ ?_) <;> first | omega | decide))); (conv => whnf))
      | (refine And.intro (by first | with_reducible assumption | exact (show cL _ _ = _ from rfl) | decide) ?_; (conv => whnf))
      | ((with_reducible refine @And.intro (_ = _) _ ?_ ?_); (· rfl); (conv => whnf))
      | ((with_reducible refine @And.intro (@LE.le Nat _ _ _) _ ?_ ?_); (· (first | exact Nat.zero_le _ | exact Nat.le_of_ble_eq_true rfl | omega)); (conv => whnf))
      | ((with_reducible refine @And.intro (@LT.lt Nat _ _ _) _ ?_ ?_); (· omega); (conv => whnf))
      | ((with_reducible refine @And.intro (∃ _, _ = _) _ ?_ ?_); (· exact ⟨_, rfl⟩); (conv => whnf))
      | ((with_reducible refine @And.intro (_ ∨ _) _ ?_ ?_); (· (first | exact Or.inl rfl | exact Or.inr rfl | exact t_b01 _ | assumption)); (conv => whnf))
      | ((with_reducible refine @And.intro (¬ (_ = _)) _ ?_ ?_); (· first | assumption | (with_reducible assumption)); (conv => whnf))
      | (refine hX _ _ _ _ _ _ ?_; (conv => whnf); fail_if_success show False)
      | (rw [c_si]; (conv => whnf))
      | (refine ⟨_, rfl, ?_⟩; (conv => whnf))
      | (refine ⟨_, _, rfl, ?_⟩; (conv => whnf))
      | (refine ⟨_, _, _, rfl, ?_⟩; (conv => whnf))
      | (refine ⟨_, _, _, _, rfl, ?_⟩; (conv => whnf))
      | (refine ⟨b,rfl,hok,?_⟩; (conv => whnf))
      | (rw [c_tl h5]; (conv => whnf))
      | (rw [c_t7 h5]; (conv => whnf))
      | (rw [c_tf h5 (by decide)]; (conv => whnf))
      | (rw [c_t0 h5]; (conv => whnf))
      | (rw [c_t1 h5]; (conv => whnf))
      | (rw [c_t2 h5]; (conv => whnf))
      | (rw [c_t3 h5]; (conv => whnf))
      | (rw [c_t4 h5]; (conv => whnf))
      | (rw [c_t5 h5]; (conv => whnf))
      | (refine And.intro ⟨_, c_tl h5⟩ ?_; (conv => whnf))
      | fail)
    refine ⟨fun e2 => ?_, fun e2 x hx => ?_⟩
    · obtain ⟨h, hh, rfl⟩ := t_in_of (by omega) e2
      have f2 : g_isH (cG P I L) (nI h) = true := e2
      (conv => whnf)
      repeat' (first
        | ((with_reducible refine @And.intro (vp_in _ _) _ ?_ ?_); (· (first | with_reducible assumption | ((with_reducible refine t_vin ?_); decide) | ((with_reducible refine vp_in_nI ?_ ?_) <;> first | omega | decide) | (simp (disch := omega) only [xl_n, xl_m, nI_dec, nI_sb, nI_add, pk_mul]; (with_reducible refine vp_in_nI ?_ ?_) <;> first | omega | decide))); (conv => whnf))
        | (refine And.intro (by first | with_reducible assumption | exact (show cL _ _ = _ from rfl) | decide) ?_; (conv => whnf))
        | ((with_reducible refine @And.intro (_ = _) _ ?_ ?_); (· rfl); (conv => whnf))
        | ((with_reducible refine @And.intro (@LE.le Nat _ _ _) _ ?_ ?_); (· (first | exact Nat.zero_le _ | exact Nat.le_of_ble_eq_true rfl | omega)); (conv => whnf))
        | ((with_reducible refine @And.intro (@LT.lt Nat _ _ _) _ ?_ ?_); (· omega); (conv => whnf))
        | ((with_reducible refine @And.intro (∃ _, _ = _) _ ?_ ?_); (· exact ⟨_, rfl⟩); (conv => whnf))
        | ((with_reducible refine @And.intro (_ ∨ _) _ ?_ ?_); (· (first | exact Or.inl rfl | exact Or.inr rfl | exact t_b01 _ | assumption)); (conv => whnf))
        | ((with_reducible refine @And.intro (¬ (_ = _)) _ ?_ ?_); (· first | assumption | (with_reducible assumption)); (conv => whnf))
        | (refine hX _ _ _ _ _ _ ?_; (conv => whnf); fail_if_success show False)
        | (rw [c_si]; (conv => whnf))
        | (refine ⟨_, rfl, ?_⟩; (conv => whnf))
        | (refine ⟨_, _, rfl, ?_⟩; (conv => whnf))
        | (refine ⟨_, _, _, rfl, ?_⟩; (conv => whnf))
        | (refine ⟨_, _, _, _, rfl, ?_⟩; (conv => whnf))
        | (refine ⟨d,rfl,hok,?_⟩; (conv => whnf))
        | (rw [c_tl h5]; (conv => whnf))
        | (rw [c_t7 h5]; (conv => whnf))
        | (rw [c_tf h5 (by decide)]; (conv => whnf))
        | (rw [c_t0 h5]; (conv => whnf))
        | (rw [c_t1 h5]; (conv => whnf))
        | (rw [c_t2 h5]; (conv => whnf))
        | (rw [c_t3 h5]; (conv => whnf))
        | (rw [c_t4 h5]; (conv => whnf))
        | (rw [c_t5 h5]; (conv => whnf))
        | (refine And.intro ⟨_, c_tl h5⟩ ?_; (conv => whnf))
        | fail)
      refine ⟨fun e3 => ?_, fun e3 x hx => ?_⟩
      · obtain ⟨g, hgg, rfl⟩ := t_in_of (by omega) e3
        have f3 : g_isH (cG P I L) (nI g) = true := e3
        have hp8 : p < 8 := by omega
        have hg9 : g < 9 := by omega
        rw [q_give, f, f2, f3, Bool.and_self, Bool.and_self, g_ck_t, nI_clamp (by omega), nI_clamp (by omega), nI_clamp (by omega)] at hQ
        have eh : t_has (I (10 * 5 + 1) p) h = t_has (gw (gnow (cG P I L)) p) h := by
          rw [show gw (gnow (cG P I L)) p = I (10 * 5 + 1) p from cA_gw (by omega)]
        have em : g_may (cK I L) (cA I 5) p g = g_may (gGK (cG P I L)) (gnow (cG P I L)) p g := rfl
        have no : (t_has (gw (gnow (cG P I L)) p) h && g_may (gGK (cG P I L)) (gnow (cG P I L)) p g) = false → Q (some (.int (Int32.ofInt 0))) (cW P Z I) := fun q => by
          rw [if_neg (by rw [q]; decide)] at hQ
          exact c_ask hQ hg c_sp.rf (by decide +kernel)
        have x39 : (t_has (gw (gnow (cG P I L)) p) h && g_may (gGK (cG P I L)) (gnow (cG P I L)) p g) = false → X 39 [some (.ref 0), some (.int (nI p)), some (.int (nI h)), some (.int (nI g))] [] (cW P Z I) 0 0 := fun q => by
          have := no q
          clear no
          refine hG _ _ _ _ _ _ ?_
          (conv => whnf)
          repeat' (first
            | ((with_reducible refine @And.intro (vp_in _ _) _ ?_ ?_); (· (first | with_reducible assumption | ((with_reducible refine t_vin ?_); decide) | ((with_reducible refine vp_in_nI ?_ ?_) <;> first | omega | decide) | (simp (disch := omega) only [xl_n, xl_m, nI_dec, nI_sb, nI_add, pk_mul]; (with_reducible refine vp_in_nI ?_ ?_) <;> first | omega | decide))); (conv => whnf))
            | (refine And.intro (by first | with_reducible assumption | exact (show cL _ _ = _ from rfl) | decide) ?_; (conv => whnf))
            | ((with_reducible refine @And.intro (_ = _) _ ?_ ?_); (· rfl); (conv => whnf))
            | ((with_reducible refine @And.intro (@LE.le Nat _ _ _) _ ?_ ?_); (· (first | exact Nat.zero_le _ | exact Nat.le_of_ble_eq_true rfl | omega)); (conv => whnf))
            | ((with_reducible refine @And.intro (@LT.lt Nat _ _ _) _ ?_ ?_); (· omega); (conv => whnf))
            | ((with_reducible refine @And.intro (∃ _, _ = _) _ ?_ ?_); (· exact ⟨_, rfl⟩); (conv => whnf))
            | ((with_reducible refine @And.intro (_ ∨ _) _ ?_ ?_); (· (first | exact Or.inl rfl | exact Or.inr rfl | exact t_b01 _ | assumption)); (conv => whnf))
            | ((with_reducible refine @And.intro (¬ (_ = _)) _ ?_ ?_); (· first | assumption | (with_reducible assumption)); (conv => whnf))
            | (refine hX _ _ _ _ _ _ ?_; (conv => whnf); fail_if_success show False)
            | (rw [c_si]; (conv => whnf))
            | (refine ⟨_, rfl, ?_⟩; (conv => whnf))
            | (refine ⟨_, _, rfl, ?_⟩; (conv => whnf))
            | (refine ⟨_, _, _, rfl, ?_⟩; (conv => whnf))
            | (refine ⟨_, _, _, _, rfl, ?_⟩; (conv => whnf))
            | (refine And.intro (fun c => ?_) (fun c => ?_) <;> (first | (exact absurd c (by decide +kernel)) | (conv => whnf)))
            | fail)
          exact this
        obtain ⟨J, eJ⟩ : ∃ J, J = xm_u2 (xm_u2 I (10 * 5 + 1) p (I (10 * 5 + 1) p &&& (t_bit h ^^^ nM))) (10 * 5 + 2) p (nI h) := ⟨_, rfl⟩
        obtain ⟨K, eK⟩ : ∃ K, K = xm_u2 (xm_u2 J (10 * 5 + 1) p (J (10 * 5 + 1) p ||| t_bit g)) (10 * 5 + 4) (8 * g + p) (J 5 6) := ⟨_, rfl⟩
        have hJ : c_sc 5 I J := by rw [eJ]; exact (c_sc.u (by omega)).tr (c_sc.u (by omega))
        have hK : c_sc 5 J K := by rw [eK]; exact (c_sc.u (by omega)).tr (c_sc.u (by omega))
        have aJ : cA J 5 = g_cease (cA I 5) p h := by
          rw [eJ, cA_l (by omega) (by omega), cA_w (by omega) (by omega), ← cA_gw (I := I) (r := 5) (p := p) (by omega)]
          rfl
        have aK : cA K 5 = g_begin (cA J 5) p g := by
          rw [eK, cA_i (by omega) hg9 (by omega), cA_w (by omega) (by omega), ← cA_gw (I := J) (r := 5) (p := p) (by omega)]
          rfl
        have j0 : J (10 * 5) = I (10 * 5) := by rw [eJ]; exact funext fun i => by rw [xm_u2_ne (by omega), xm_u2_ne (by omega)]
        have j6 : J 5 6 = I 5 6 := by rw [eJ, xm_u2_ne (by omega), xm_u2_ne (by omega)]
        have k0 : K (10 * 5) = J (10 * 5) := by rw [eK]; exact funext fun i => by rw [xm_u2_ne (by omega), xm_u2_ne (by omega)]
        have k6 : K 5 6 = J 5 6 := by rw [eK, xm_u2_ne (by omega), xm_u2_ne (by omega)]
        have wJ : g_w (cA J 5) := by rw [aJ]; exact g_w_cease ht.2.2.2.1 (by omega)
        have tJ : c_ts P Z J 5 L := ht.up hJ j0 j6 wJ
        have wK : g_w (cA K 5) := by
          have := g_w_take (p := p) wJ hg9
          rw [aK]
          exact this
        have tK : c_ts P Z K 5 L := tJ.up hK k0 k6 wK
        (conv => whnf)
        repeat' (first
          | ((with_reducible refine @And.intro (vp_in _ _) _ ?_ ?_); (· (first | with_reducible assumption | ((with_reducible refine t_vin ?_); decide) | ((with_reducible refine vp_in_nI ?_ ?_) <;> first | omega | decide) | (simp (disch := omega) only [xl_n, xl_m, nI_dec, nI_sb, nI_add, pk_mul]; (with_reducible refine vp_in_nI ?_ ?_) <;> first | omega | decide))); (conv => whnf))
          | (refine And.intro (by first | with_reducible assumption | exact (show cL _ _ = _ from rfl) | decide) ?_; (conv => whnf))
          | ((with_reducible refine @And.intro (_ = _) _ ?_ ?_); (· rfl); (conv => whnf))
          | ((with_reducible refine @And.intro (@LE.le Nat _ _ _) _ ?_ ?_); (· (first | exact Nat.zero_le _ | exact Nat.le_of_ble_eq_true rfl | omega)); (conv => whnf))
          | ((with_reducible refine @And.intro (@LT.lt Nat _ _ _) _ ?_ ?_); (· omega); (conv => whnf))
          | ((with_reducible refine @And.intro (∃ _, _ = _) _ ?_ ?_); (· exact ⟨_, rfl⟩); (conv => whnf))
          | ((with_reducible refine @And.intro (_ ∨ _) _ ?_ ?_); (· (first | exact Or.inl rfl | exact Or.inr rfl | exact t_b01 _ | assumption)); (conv => whnf))
          | ((with_reducible refine @And.intro (¬ (_ = _)) _ ?_ ?_); (· first | assumption | (with_reducible assumption)); (conv => whnf))
          | (refine hX _ _ _ _ _ _ ?_; (conv => whnf); fail_if_success show False)
          | (rw [c_si]; (conv => whnf))
          | (refine ⟨_, rfl, ?_⟩; (conv => whnf))
          | (refine ⟨_, _, rfl, ?_⟩; (conv => whnf))
          | (refine ⟨_, _, _, rfl, ?_⟩; (conv => whnf))
          | (refine ⟨_, _, _, _, rfl, ?_⟩; (conv => whnf))
          | (refine ⟨5,p,h,rfl,h5,hp8,?_⟩; (conv => whnf))
          | (refine ⟨5,p,g,L,rfl,h5,hok,hp,hgg,ht.2.2.1,?_⟩; (conv => whnf))
          | (refine ⟨5,p,g,rfl,h5,hp8,hg9,?_⟩; (conv => whnf))
          | (refine ⟨L,rfl,tK,?_⟩; (conv => whnf))
          | (rw [← eJ]; (conv => whnf))
          | (rw [← eK]; (conv => whnf))
          | (rw [eh]; (conv => whnf))
          | (rw [em]; (conv => whnf))
          | (rw [c_tl h5]; (conv => whnf))
          | (rw [c_t7 h5]; (conv => whnf))
          | (rw [c_tf h5 (by decide)]; (conv => whnf))
          | (rw [c_t0 h5]; (conv => whnf))
          | (rw [c_t1 h5]; (conv => whnf))
          | (rw [c_t2 h5]; (conv => whnf))
          | (rw [c_t3 h5]; (conv => whnf))
          | (rw [c_t4 h5]; (conv => whnf))
          | (rw [c_t5 h5]; (conv => whnf))
          | (refine And.intro ⟨_, c_tl h5⟩ ?_; (conv => whnf))
          | (refine And.intro (fun c => ?_) (fun c => ?_) <;> (first | (exact absurd c (by decide +kernel)) | (conv => whnf)))
          | fail)
        · exact x39 (by rw [(t_b0 _).mp c]; rfl)
        · have a1 := (by assumption : ¬ (fun x : Int32 => x = 0) (t_b (t_has (gw (gnow (cG P I L)) p) h)))
          have a2 : ¬ t_b (g_may (gGK (cG P I L)) (gnow (cG P I L)) p g) = 0 := c
          have q : (t_has (gw (gnow (cG P I L)) p) h && g_may (gGK (cG P I L)) (gnow (cG P I L)) p g) = true := by
            cases x1 : t_has (gw (gnow (cG P I L)) p) h with
            | false => exact absurd ((t_b0 _).mpr x1) a1
            | true =>
              cases x2 : g_may (gGK (cG P I L)) (gnow (cG P I L)) p g with
              | false => exact absurd ((t_b0 _).mpr x2) a2
              | true => rfl
          rw [if_pos q] at hQ
          intro O h2 t2 e2
          obtain ⟨g1, g2⟩ := c_set hg (hJ.tr hK) tK.td h2 t2 e2
          have fin := hQ.1 O g1 (by
            rw [g2, aK, aJ]
            rfl) rfl
          clear x39 no
          (conv => whnf)
          repeat' (first
            | ((with_reducible refine @And.intro (vp_in _ _) _ ?_ ?_); (· (first | with_reducible assumption | ((with_reducible refine t_vin ?_); decide) | ((with_reducible refine vp_in_nI ?_ ?_) <;> first | omega | decide) | (simp (disch := omega) only [xl_n, xl_m, nI_dec, nI_sb, nI_add, pk_mul]; (with_reducible refine vp_in_nI ?_ ?_) <;> first | omega | decide))); (conv => whnf))
            | (refine And.intro (by first | with_reducible assumption | exact (show cL _ _ = _ from rfl) | decide) ?_; (conv => whnf))
            | ((with_reducible refine @And.intro (_ = _) _ ?_ ?_); (· rfl); (conv => whnf))
            | ((with_reducible refine @And.intro (@LE.le Nat _ _ _) _ ?_ ?_); (· (first | exact Nat.zero_le _ | exact Nat.le_of_ble_eq_true rfl | omega)); (conv => whnf))
            | ((with_reducible refine @And.intro (@LT.lt Nat _ _ _) _ ?_ ?_); (· omega); (conv => whnf))
            | ((with_reducible refine @And.intro (∃ _, _ = _) _ ?_ ?_); (· exact ⟨_, rfl⟩); (conv => whnf))
            | ((with_reducible refine @And.intro (_ ∨ _) _ ?_ ?_); (· (first | exact Or.inl rfl | exact Or.inr rfl | exact t_b01 _ | assumption)); (conv => whnf))
            | ((with_reducible refine @And.intro (¬ (_ = _)) _ ?_ ?_); (· first | assumption | (with_reducible assumption)); (conv => whnf))
            | (refine hX _ _ _ _ _ _ ?_; (conv => whnf); fail_if_success show False)
            | (rw [c_si]; (conv => whnf))
            | (refine ⟨_, rfl, ?_⟩; (conv => whnf))
            | (refine ⟨_, _, rfl, ?_⟩; (conv => whnf))
            | (refine ⟨_, _, _, rfl, ?_⟩; (conv => whnf))
            | (refine ⟨_, _, _, _, rfl, ?_⟩; (conv => whnf))
            | (refine And.intro (fun c => ?_) (fun c => ?_) <;> (first | (exact absurd c (by decide +kernel)) | (conv => whnf)))
            | fail)
          exact fin
        · exact x39 (by rw [(t_b0 _).mp (Classical.not_not.mp c), Bool.and_false])
      · exact c_ref0 hQ hg (by rw [f, f2]; exact e3) hx n1_0
    · exact c_ref0 hQ hg (by rw [f, show g_isH (cG P I L) b = false from e2]; rfl) hx n1_0
  · exact c_ref0 hQ hg (by rw [show g_isP (cG P I L) a = false from e]; rfl) hx n1_0
theorem ct_X1_give : xm_Ct cI yX1_give (ws_ yX1_give cX1_give 4 (some .int)) 8 3 18 S_X1_give := xm_enter (rt := 0) (init := false) (by decide +kernel) rfl (fun h => by cases h) (Or.inl ⟨rfl, rfl⟩) (oX1_give) body_X1_give
theorem cv_X1_give {own : String} {cc : ByteArray} {fr pc idx : Nat} (hdg : decode cc pc = .ok (.invokevirtual idx, 3)) (hl : xm_ml own idx yX1_give) (hfr : 8 < fr) : xm_CallOK cI own cc fr pc (pc + 3) 4 3 18 (xm_this 0 S_X1_give) := xm_callV 0 cI_good (ct_X1_give) hdg hl q1720 q1721 q116 q1722 rfl rfl (by decide +kernel) hfr (by decide)
/-! the probe is now, and goes on -/
theorem c_prb {P : cP} {Z : cX} {I J : tI} {L : List lC} (h : c_sc 7 I J) (hg : c_good P Z I L) : c_good P Z J L ∧ cG P J L = cG P I L := ⟨h.sp.good hg, h.sp.G hg⟩
abbrev bX1_ahead_0 : List xE := [(.aload_n 0, 1, 0, 0, 0), (.iload_n 1, 2, 0, 0, 0), (.invokevirtual 238, 5, 0, 0, 9), (.aload_n 0, 6, 0, 0, 0), (.iload_n 2, 7, 0, 0, 0), (.ifCond .lt 13, 10, 0, 20, 0), (.iload_n 2, 11, 0, 0, 0), (.bipush 60, 13, 0, 0, 0), (.if_icmp .gt 7, 16, 0, 20, 0), (.iconst 1, 17, 0, 0, 0), (.goto 4, 20, 0, 21, 0)]
abbrev bX1_ahead_20 : List xE := [(.iconst 0, 21, 0, 0, 0)]
abbrev bX1_ahead_21 : List xE := [(.invokevirtual 160, 24, 0, 1, 9), (.aload_n 0, 25, 0, 0, 0), (.getfield 65, 28, 0, 7, 1), (.aload_n 0, 29, 0, 0, 0), (.getfield 58, 32, 0, 5, 1), (.invokevirtual 110, 35, 0, 2, 9), (.iload_n 2, 36, 0, 0, 0), (.invokevirtual 291, 39, 0, 3, 9), (.getfield 247, 42, 7, 1, 1), (.iload_n 1, 43, 0, 0, 0), (.iaload, 44, 0, 0, 0), (.ireturn, 45, 0, 0, 0)]
abbrev kX1_ahead : List (Nat × List xE) := [(0, bX1_ahead_0), (20, bX1_ahead_20), (21, bX1_ahead_21)]
abbrev lX1_ahead : List (Nat × Nat × Nat × xS) := [(2, 1, 6, xm_this 0 S_X1_needPuppet), (2, 1, 6, xm_this 0 S_X1_need), (2, 0, 0, xm_this 7 S_X10_becomes), (2, 0, 0, xm_this 7 S_X10_goes_2)]
theorem oX1_ahead_0  : xm_okb cI RX1 cX1_ahead false 165 lX1_ahead bX1_ahead_0 0 := xo_0 dX1_ahead_0 rfl trivial (xo_0 dX1_ahead_1 rfl trivial (xo_c rfl (cv_X1_needPuppet dX1_ahead_2 (Or.inl q1607) (by decide)) (xo_0 dX1_ahead_5 rfl trivial (xo_0 dX1_ahead_6 rfl trivial (xo_0 dX1_ahead_7 rfl rfl (xo_0 dX1_ahead_10 rfl trivial (xo_0 dX1_ahead_11 rfl (xo_bipush (by decide +kernel)) (xo_0 dX1_ahead_13 rfl rfl (xo_0 dX1_ahead_16 rfl trivial (xo_0 dX1_ahead_17 rfl rfl (xo_n)))))))))))
theorem oX1_ahead_20  : xm_okb cI RX1 cX1_ahead false 165 lX1_ahead bX1_ahead_20 20 := xo_0 dX1_ahead_20 rfl trivial (xo_n)
theorem oX1_ahead_21  : xm_okb cI RX1 cX1_ahead false 165 lX1_ahead bX1_ahead_21 21 := xo_c rfl (cv_X1_need dX1_ahead_21 (Or.inl q1030) (by decide)) (xo_0 dX1_ahead_24 rfl trivial (xo_1 dX1_ahead_25 rfl (xm_fg_of (Or.inl q726) (by decide) rfl (by decide) rfl rfl (Or.inl rfl) rfl) (xo_0 dX1_ahead_28 rfl trivial (xo_1 dX1_ahead_29 rfl (xm_fg_of (Or.inl q724) (by decide) rfl (by decide) rfl rfl (Or.inl rfl) rfl) (xo_c rfl (cv_X10_becomes dX1_ahead_32 (Or.inl q711) (by decide)) (xo_0 dX1_ahead_35 rfl trivial (xo_c rfl (cv_X10_goes_2 dX1_ahead_36 (Or.inl q1653) (by decide)) (xo_1 dX1_ahead_39 rfl (xm_fg_of (Or.inr ⟨_, q665⟩) (by decide) rfl (by decide) rfl rfl (Or.inl rfl) rfl) (xo_0 dX1_ahead_42 rfl trivial (xo_0 dX1_ahead_43 rfl trivial (xo_0 dX1_ahead_44 rfl trivial (xo_n))))))))))))
theorem oX1_ahead  : ∀ q ∈ kX1_ahead, xm_okb cI RX1 cX1_ahead false 165 lX1_ahead q.2 q.1 := by
  intro q hq
  simp only [List.mem_cons, List.not_mem_nil, or_false] at hq
  rcases hq with rfl | rfl | rfl
  · exact oX1_ahead_0  
  · exact oX1_ahead_20  
  · exact oX1_ahead_21  
def S_X1_ahead : xS := cU fun as P Z I Q QX => ∃ a b L, as = [.ref 0, .int a, .int b] ∧ c_good P Z I L ∧ g_ok (cG P I L) ∧ c_P P Z L (cG P I L) Q QX (q_ahead (cG P I L) a b)
theorem body_X1_ahead : xm_Body 3 0 2 12 [] lX1_ahead kX1_ahead S_X1_ahead := by
  intro X avs w Q QX hX0 hS
  have hG := xm_go [] hX0
  have hX := xm_go [] hX0
  clear hX0
  obtain ⟨P, Z, I, rfl, a, b, L, rfl, hg, hk0, hQ⟩ := hS
  have hok := hg.ok
  obtain ⟨hn, h9, hm, h8⟩ := id hok
  have h5 := c_5 (P := P)
  have h7 := c_7 (P := P)
  have ht := hg.now
  obtain ⟨y, hy, ey⟩ := hk0.now.1
  refine ⟨rfl, ?_⟩
  repeat' (first
    | ((with_reducible refine @And.intro (vp_in _ _) _ ?_ ?_); (· (first | with_reducible assumption | ((with_reducible refine t_vin ?_); decide) | ((with_reducible refine vp_in_nI ?_ ?_) <;> first | omega | decide) | (simp (disch := omega) only [xl_n, xl_m, nI_dec, nI_sb, nI_add, pk_mul]; (with_reducible refine vp_in_nI ?_ ?_) <;> first | omega | decide))); (conv => whnf))
    | (refine And.intro (by first | with_reducible assumption | exact (show cL _ _ = _ from rfl) | decide) ?_; (conv => whnf))
    | ((with_reducible refine @And.intro (_ = _) _ ?_ ?_); (· rfl); (conv => whnf))
    | ((with_reducible refine @And.intro (@LE.le Nat _ _ _) _ ?_ ?_); (· (first | exact Nat.zero_le _ | exact Nat.le_of_ble_eq_true rfl | omega)); (conv => whnf))
    | ((with_reducible refine @And.intro (@LT.lt Nat _ _ _) _ ?_ ?_); (· omega); (conv => whnf))
    | ((with_reducible refine @And.intro (∃ _, _ = _) _ ?_ ?_); (· exact ⟨_, rfl⟩); (conv => whnf))
    | ((with_reducible refine @And.intro (_ ∨ _) _ ?_ ?_); (· (first | exact Or.inl rfl | exact Or.inr rfl | exact t_b01 _ | assumption)); (conv => whnf))
    | ((with_reducible refine @And.intro (¬ (_ = _)) _ ?_ ?_); (· first | assumption | (with_reducible assumption)); (conv => whnf))
    | (refine hX _ _ _ _ _ _ ?_; (conv => whnf); fail_if_success show False)
    | (rw [c_si]; (conv => whnf))
    | (refine ⟨_, rfl, ?_⟩; (conv => whnf))
    | (refine ⟨_, _, rfl, ?_⟩; (conv => whnf))
    | (refine ⟨_, _, _, rfl, ?_⟩; (conv => whnf))
    | (refine ⟨_, _, _, _, rfl, ?_⟩; (conv => whnf))
    | (refine ⟨a,rfl,hok,?_⟩; (conv => whnf))
    | (rw [c_tl h5]; (conv => whnf))
    | (rw [c_t7 h5]; (conv => whnf))
    | (rw [c_tf h5 (by decide)]; (conv => whnf))
    | (rw [c_t0 h5]; (conv => whnf))
    | (rw [c_t1 h5]; (conv => whnf))
    | (rw [c_t2 h5]; (conv => whnf))
    | (rw [c_t3 h5]; (conv => whnf))
    | (rw [c_t4 h5]; (conv => whnf))
    | (rw [c_t5 h5]; (conv => whnf))
    | (refine And.intro ⟨_, c_tl h5⟩ ?_; (conv => whnf))
    | fail)
  refine ⟨fun e => ?_, fun e x hx => ?_⟩
  · obtain ⟨p, hp, rfl⟩ := t_in_of (by omega) e
    have f : g_isP (cG P I L) (nI p) = true := e
    have ek : (nI p).toNatClampNeg = p := nI_clamp (by omega)
    rw [q_ahead, f, g_ck_t, ek] at hQ
    (conv => whnf)
    rcases c_rc b 0 60 (A := 0) (B := Int32.ofInt 60) (by decide +kernel) (by decide +kernel) (by omega) (by omega) with ⟨n, -, hn6, rfl, e1⟩ | ⟨e1, h1⟩ | ⟨e1, h1, h2⟩
    · have d1 : ¬ nI n < 0 := fun q => absurd ((nI_nn (n := n) (by omega)).1) (fun z => z q)
      have d2 : ¬ Int32.ofInt 60 < nI n := fun q => by
        have : nI n ≤ nI 60 := (nI_leI (by omega) (by omega)).mpr hn6
        exact absurd this (Int32.not_le.mpr q)
      rw [e1, g_ck_t, nI_clamp (by omega)] at hQ
      repeat' (first
        | ((with_reducible refine @And.intro (vp_in _ _) _ ?_ ?_); (· (first | with_reducible assumption | ((with_reducible refine t_vin ?_); decide) | ((with_reducible refine vp_in_nI ?_ ?_) <;> first | omega | decide) | (simp (disch := omega) only [xl_n, xl_m, nI_dec, nI_sb, nI_add, pk_mul]; (with_reducible refine vp_in_nI ?_ ?_) <;> first | omega | decide))); (conv => whnf))
        | (refine And.intro (by first | with_reducible assumption | exact (show cL _ _ = _ from rfl) | decide) ?_; (conv => whnf))
        | ((with_reducible refine @And.intro (_ = _) _ ?_ ?_); (· rfl); (conv => whnf))
        | ((with_reducible refine @And.intro (@LE.le Nat _ _ _) _ ?_ ?_); (· (first | exact Nat.zero_le _ | exact Nat.le_of_ble_eq_true rfl | omega)); (conv => whnf))
        | ((with_reducible refine @And.intro (@LT.lt Nat _ _ _) _ ?_ ?_); (· omega); (conv => whnf))
        | ((with_reducible refine @And.intro (∃ _, _ = _) _ ?_ ?_); (· exact ⟨_, rfl⟩); (conv => whnf))
        | ((with_reducible refine @And.intro (_ ∨ _) _ ?_ ?_); (· (first | exact Or.inl rfl | exact Or.inr rfl | exact t_b01 _ | assumption)); (conv => whnf))
        | ((with_reducible refine @And.intro (¬ (_ = _)) _ ?_ ?_); (· first | assumption | (with_reducible assumption)); (conv => whnf))
        | (refine hX _ _ _ _ _ _ ?_; (conv => whnf); fail_if_success show False)
        | (rw [c_si]; (conv => whnf))
        | (refine ⟨_, rfl, ?_⟩; (conv => whnf))
        | (refine ⟨_, _, rfl, ?_⟩; (conv => whnf))
        | (refine ⟨_, _, _, rfl, ?_⟩; (conv => whnf))
        | (refine ⟨_, _, _, _, rfl, ?_⟩; (conv => whnf))
        | (refine ⟨true,rfl,?_⟩; (conv => whnf))
        | (refine ⟨false,rfl,?_⟩; (conv => whnf))
        | (refine ⟨7,5,L,rfl,h7,ht,?_⟩; (conv => whnf))
        | (rw [c_tl h5]; (conv => whnf))
        | (rw [c_t7 h5]; (conv => whnf))
        | (rw [c_tf h5 (by decide)]; (conv => whnf))
        | (rw [c_t0 h5]; (conv => whnf))
        | (rw [c_t1 h5]; (conv => whnf))
        | (rw [c_t2 h5]; (conv => whnf))
        | (rw [c_t3 h5]; (conv => whnf))
        | (rw [c_t4 h5]; (conv => whnf))
        | (rw [c_t5 h5]; (conv => whnf))
        | (refine And.intro ⟨_, c_tl h5⟩ ?_; (conv => whnf))
        | (rw [c_tl h7]; (conv => whnf))
        | (rw [c_t7 h7]; (conv => whnf))
        | (rw [c_tf h7 (by decide)]; (conv => whnf))
        | (rw [c_t0 h7]; (conv => whnf))
        | (rw [c_t1 h7]; (conv => whnf))
        | (rw [c_t2 h7]; (conv => whnf))
        | (rw [c_t3 h7]; (conv => whnf))
        | (rw [c_t4 h7]; (conv => whnf))
        | (rw [c_t5 h7]; (conv => whnf))
        | (refine And.intro ⟨_, c_tl h7⟩ ?_; (conv => whnf))
        | (refine And.intro (fun c => ?_) (fun c => ?_) <;> (first | (exact absurd c (by decide +kernel)) | (exact absurd c (by assumption)) | (exact False.elim (c (by assumption))) | (conv => whnf)))
        | fail)
      intro J hJ tJ eJ
      (conv => whnf)
      have yJ : J 7 6 = nI y := by
        rw [← cA_gy (I := J) (r := 7), eJ]
        exact ey
      have hyn : y + n < 100000 := by omega
      repeat' (first
        | ((with_reducible refine @And.intro (vp_in _ _) _ ?_ ?_); (· (first | with_reducible assumption | ((with_reducible refine t_vin ?_); decide) | ((with_reducible refine vp_in_nI ?_ ?_) <;> first | omega | decide) | (simp (disch := omega) only [xl_n, xl_m, nI_dec, nI_sb, nI_add, pk_mul]; (with_reducible refine vp_in_nI ?_ ?_) <;> first | omega | decide))); (conv => whnf))
        | (refine And.intro (by first | with_reducible assumption | exact (show cL _ _ = _ from rfl) | decide) ?_; (conv => whnf))
        | ((with_reducible refine @And.intro (_ = _) _ ?_ ?_); (· rfl); (conv => whnf))
        | ((with_reducible refine @And.intro (@LE.le Nat _ _ _) _ ?_ ?_); (· (first | exact Nat.zero_le _ | exact Nat.le_of_ble_eq_true rfl | omega)); (conv => whnf))
        | ((with_reducible refine @And.intro (@LT.lt Nat _ _ _) _ ?_ ?_); (· omega); (conv => whnf))
        | ((with_reducible refine @And.intro (∃ _, _ = _) _ ?_ ?_); (· exact ⟨_, rfl⟩); (conv => whnf))
        | ((with_reducible refine @And.intro (_ ∨ _) _ ?_ ?_); (· (first | exact Or.inl rfl | exact Or.inr rfl | exact t_b01 _ | assumption)); (conv => whnf))
        | ((with_reducible refine @And.intro (¬ (_ = _)) _ ?_ ?_); (· first | assumption | (with_reducible assumption)); (conv => whnf))
        | (refine hX _ _ _ _ _ _ ?_; (conv => whnf); fail_if_success show False)
        | (rw [c_si]; (conv => whnf))
        | (refine ⟨_, rfl, ?_⟩; (conv => whnf))
        | (refine ⟨_, _, rfl, ?_⟩; (conv => whnf))
        | (refine ⟨_, _, _, rfl, ?_⟩; (conv => whnf))
        | (refine ⟨_, _, _, _, rfl, ?_⟩; (conv => whnf))
        | (refine ⟨7,L,y,n,rfl,tJ,yJ,hyn,?_⟩; (conv => whnf))
        | (rw [c_tl h5]; (conv => whnf))
        | (rw [c_t7 h5]; (conv => whnf))
        | (rw [c_tf h5 (by decide)]; (conv => whnf))
        | (rw [c_t0 h5]; (conv => whnf))
        | (rw [c_t1 h5]; (conv => whnf))
        | (rw [c_t2 h5]; (conv => whnf))
        | (rw [c_t3 h5]; (conv => whnf))
        | (rw [c_t4 h5]; (conv => whnf))
        | (rw [c_t5 h5]; (conv => whnf))
        | (refine And.intro ⟨_, c_tl h5⟩ ?_; (conv => whnf))
        | (rw [c_tl h7]; (conv => whnf))
        | (rw [c_t7 h7]; (conv => whnf))
        | (rw [c_tf h7 (by decide)]; (conv => whnf))
        | (rw [c_t0 h7]; (conv => whnf))
        | (rw [c_t1 h7]; (conv => whnf))
        | (rw [c_t2 h7]; (conv => whnf))
        | (rw [c_t3 h7]; (conv => whnf))
        | (rw [c_t4 h7]; (conv => whnf))
        | (rw [c_t5 h7]; (conv => whnf))
        | (refine And.intro ⟨_, c_tl h7⟩ ?_; (conv => whnf))
        | (refine And.intro (fun c => ?_) (fun c => ?_) <;> (first | (exact absurd c (by decide +kernel)) | (conv => whnf)))
        | fail)
      intro K hK tK eK
      (conv => whnf)
      repeat' (first
        | ((with_reducible refine @And.intro (vp_in _ _) _ ?_ ?_); (· (first | with_reducible assumption | ((with_reducible refine t_vin ?_); decide) | ((with_reducible refine vp_in_nI ?_ ?_) <;> first | omega | decide) | (simp (disch := omega) only [xl_n, xl_m, nI_dec, nI_sb, nI_add, pk_mul]; (with_reducible refine vp_in_nI ?_ ?_) <;> first | omega | decide))); (conv => whnf))
        | (refine And.intro (by first | with_reducible assumption | exact (show cL _ _ = _ from rfl) | decide) ?_; (conv => whnf))
        | ((with_reducible refine @And.intro (_ = _) _ ?_ ?_); (· rfl); (conv => whnf))
        | ((with_reducible refine @And.intro (@LE.le Nat _ _ _) _ ?_ ?_); (· (first | exact Nat.zero_le _ | exact Nat.le_of_ble_eq_true rfl | omega)); (conv => whnf))
        | ((with_reducible refine @And.intro (@LT.lt Nat _ _ _) _ ?_ ?_); (· omega); (conv => whnf))
        | ((with_reducible refine @And.intro (∃ _, _ = _) _ ?_ ?_); (· exact ⟨_, rfl⟩); (conv => whnf))
        | ((with_reducible refine @And.intro (_ ∨ _) _ ?_ ?_); (· (first | exact Or.inl rfl | exact Or.inr rfl | exact t_b01 _ | assumption)); (conv => whnf))
        | ((with_reducible refine @And.intro (¬ (_ = _)) _ ?_ ?_); (· first | assumption | (with_reducible assumption)); (conv => whnf))
        | (refine hX _ _ _ _ _ _ ?_; (conv => whnf); fail_if_success show False)
        | (rw [c_si]; simp (disch := omega) only [xl_n, xl_m, nI_dec, nI_sb, xl_0, xl_1, cW_i, Nat.add_zero, Nat.reduceAdd, Nat.reduceMul, t_bn0, t_bn1, Classical.not_not, t_lt, nI_add, nI_1, pk_mul, nI_clamp, c_si, nI_eq, nI_leI, nM_ne, nM_ne, xm_u2_ne, xm_u2_at, reduceIte, Nat.reduceEqDiff]; (conv => whnf))
        | (refine ⟨_, rfl, ?_⟩; (conv => whnf))
        | (refine ⟨_, _, rfl, ?_⟩; (conv => whnf))
        | (refine ⟨_, _, _, rfl, ?_⟩; (conv => whnf))
        | (refine ⟨_, _, _, _, rfl, ?_⟩; (conv => whnf))
        | (rw [c_tl h5]; (conv => whnf))
        | (rw [c_t7 h5]; (conv => whnf))
        | (rw [c_tf h5 (by decide)]; (conv => whnf))
        | (rw [c_t0 h5]; (conv => whnf))
        | (rw [c_t1 h5]; (conv => whnf))
        | (rw [c_t2 h5]; (conv => whnf))
        | (rw [c_t3 h5]; (conv => whnf))
        | (rw [c_t4 h5]; (conv => whnf))
        | (rw [c_t5 h5]; (conv => whnf))
        | (refine And.intro ⟨_, c_tl h5⟩ ?_; (conv => whnf))
        | (rw [c_tl h7]; (conv => whnf))
        | (rw [c_t7 h7]; (conv => whnf))
        | (rw [c_tf h7 (by decide)]; (conv => whnf))
        | (rw [c_t0 h7]; (conv => whnf))
        | (rw [c_t1 h7]; (conv => whnf))
        | (rw [c_t2 h7]; (conv => whnf))
        | (rw [c_t3 h7]; (conv => whnf))
        | (rw [c_t4 h7]; (conv => whnf))
        | (rw [c_t5 h7]; (conv => whnf))
        | (refine And.intro ⟨_, c_tl h7⟩ ?_; (conv => whnf))
        | (refine And.intro (fun c => ?_) (fun c => ?_) <;> (first | (exact absurd c (by decide +kernel)) | (conv => whnf)))
        | fail)
      refine c_ask hQ hg (hJ.tr hK).sp ?_
      show K 71 (nI p).toNatClampNeg = gw (g_gos (cK I L) n (cA I 5)) p
      rw [ek, ← cA_gw (I := K) (r := 7) (p := p) (by omega), eK, eJ, hJ.K h7]
    all_goals
      repeat' (first
        | ((with_reducible refine @And.intro (vp_in _ _) _ ?_ ?_); (· (first | with_reducible assumption | ((with_reducible refine t_vin ?_); decide) | ((with_reducible refine vp_in_nI ?_ ?_) <;> first | omega | decide) | (simp (disch := omega) only [xl_n, xl_m, nI_dec, nI_sb, nI_add, pk_mul]; (with_reducible refine vp_in_nI ?_ ?_) <;> first | omega | decide))); (conv => whnf))
        | (refine And.intro (by first | with_reducible assumption | exact (show cL _ _ = _ from rfl) | decide) ?_; (conv => whnf))
        | ((with_reducible refine @And.intro (_ = _) _ ?_ ?_); (· rfl); (conv => whnf))
        | ((with_reducible refine @And.intro (@LE.le Nat _ _ _) _ ?_ ?_); (· (first | exact Nat.zero_le _ | exact Nat.le_of_ble_eq_true rfl | omega)); (conv => whnf))
        | ((with_reducible refine @And.intro (@LT.lt Nat _ _ _) _ ?_ ?_); (· omega); (conv => whnf))
        | ((with_reducible refine @And.intro (∃ _, _ = _) _ ?_ ?_); (· exact ⟨_, rfl⟩); (conv => whnf))
        | ((with_reducible refine @And.intro (_ ∨ _) _ ?_ ?_); (· (first | exact Or.inl rfl | exact Or.inr rfl | exact t_b01 _ | assumption)); (conv => whnf))
        | ((with_reducible refine @And.intro (¬ (_ = _)) _ ?_ ?_); (· first | assumption | (with_reducible assumption)); (conv => whnf))
        | (refine hX _ _ _ _ _ _ ?_; (conv => whnf); fail_if_success show False)
        | (rw [c_si]; (conv => whnf))
        | (refine ⟨_, rfl, ?_⟩; (conv => whnf))
        | (refine ⟨_, _, rfl, ?_⟩; (conv => whnf))
        | (refine ⟨_, _, _, rfl, ?_⟩; (conv => whnf))
        | (refine ⟨_, _, _, _, rfl, ?_⟩; (conv => whnf))
        | (refine ⟨true,rfl,?_⟩; (conv => whnf))
        | (refine ⟨false,rfl,?_⟩; (conv => whnf))
        | (refine And.intro (fun c => ?_) (fun c => ?_) <;> (first | (exact absurd c (by decide +kernel)) | (exact absurd c (by assumption)) | (exact False.elim (c (by assumption))) | (conv => whnf)))
        | fail)
      intro x hx
      exact c_ref1 hQ hg e1 hx n2_0
  · exact c_ref0 hQ hg e hx n1_0
theorem ct_X1_ahead : xm_Ct cI yX1_ahead (ws_ yX1_ahead cX1_ahead 3 (some .int)) 165 2 12 S_X1_ahead := xm_enter (rt := 0) (init := false) (by decide +kernel) rfl (fun h => by cases h) (Or.inl ⟨rfl, rfl⟩) (oX1_ahead) body_X1_ahead
theorem cv_X1_ahead {own : String} {cc : ByteArray} {fr pc idx : Nat} (hdg : decode cc pc = .ok (.invokevirtual idx, 3)) (hl : xm_ml own idx yX1_ahead) (hfr : 165 < fr) : xm_CallOK cI own cc fr pc (pc + 3) 3 2 12 (xm_this 0 S_X1_ahead) := xm_callV 0 cI_good (ct_X1_ahead) hdg hl q1683 q1684 q116 q1685 rfl rfl (by decide +kernel) hfr (by decide)
abbrev bX1_heir_0 : List xE := [(.aload_n 0, 1, 0, 0, 0), (.iload_n 1, 2, 0, 0, 0), (.invokevirtual 238, 5, 0, 0, 9), (.aload_n 0, 6, 0, 0, 0), (.iload_n 2, 7, 0, 0, 0), (.invokevirtual 217, 10, 0, 1, 9), (.aload_n 0, 11, 0, 0, 0), (.getfield 58, 14, 0, 5, 1), (.iload_n 1, 15, 0, 0, 0), (.iload_n 2, 16, 0, 0, 0), (.invokevirtual 303, 19, 0, 2, 9), (.ifCond .ne 5, 22, 0, 24, 0), (.iconst (-1), 23, 0, 0, 0), (.ireturn, 24, 0, 0, 0)]
abbrev bX1_heir_24 : List xE := [(.aload_n 0, 25, 0, 0, 0), (.getfield 65, 28, 0, 7, 1), (.aload_n 0, 29, 0, 0, 0), (.getfield 58, 32, 0, 5, 1), (.invokevirtual 110, 35, 0, 3, 9), (.astore_n 3, 36, 0, 0, 0), (.aload_n 3, 37, 0, 0, 0), (.iload_n 2, 38, 0, 0, 0), (.invokevirtual 311, 41, 0, 4, 9), (.pop, 42, 0, 0, 0), (.aload_n 3, 43, 0, 0, 0), (.iload_n 1, 44, 0, 0, 0), (.invokevirtual 281, 47, 0, 5, 9), (.ireturn, 48, 0, 0, 0)]
abbrev kX1_heir : List (Nat × List xE) := [(0, bX1_heir_0), (24, bX1_heir_24)]
abbrev lX1_heir : List (Nat × Nat × Nat × xS) := [(2, 1, 6, xm_this 0 S_X1_needPuppet), (2, 1, 6, xm_this 0 S_X1_needHand), (3, 0, 0, xm_this 7 S_X10_isOf), (2, 0, 0, xm_this 7 S_X10_becomes), (2, 0, 0, xm_this 7 S_X10_dies), (2, 0, 0, xm_this 7 S_X10_chooses)]
theorem oX1_heir_0  : xm_okb cI RX1 cX1_heir false 162 lX1_heir bX1_heir_0 0 := xo_0 dX1_heir_0 rfl trivial (xo_0 dX1_heir_1 rfl trivial (xo_c rfl (cv_X1_needPuppet dX1_heir_2 (Or.inl q1607) (by decide)) (xo_0 dX1_heir_5 rfl trivial (xo_0 dX1_heir_6 rfl trivial (xo_c rfl (cv_X1_needHand dX1_heir_7 (Or.inl q1576) (by decide)) (xo_0 dX1_heir_10 rfl trivial (xo_1 dX1_heir_11 rfl (xm_fg_of (Or.inl q724) (by decide) rfl (by decide) rfl rfl (Or.inl rfl) rfl) (xo_0 dX1_heir_14 rfl trivial (xo_0 dX1_heir_15 rfl trivial (xo_c rfl (cv_X10_isOf dX1_heir_16 (Or.inl q1693) (by decide)) (xo_0 dX1_heir_19 rfl rfl (xo_0 dX1_heir_22 rfl trivial (xo_0 dX1_heir_23 rfl trivial (xo_n))))))))))))))
theorem oX1_heir_24  : xm_okb cI RX1 cX1_heir false 162 lX1_heir bX1_heir_24 24 := xo_0 dX1_heir_24 rfl trivial (xo_1 dX1_heir_25 rfl (xm_fg_of (Or.inl q726) (by decide) rfl (by decide) rfl rfl (Or.inl rfl) rfl) (xo_0 dX1_heir_28 rfl trivial (xo_1 dX1_heir_29 rfl (xm_fg_of (Or.inl q724) (by decide) rfl (by decide) rfl rfl (Or.inl rfl) rfl) (xo_c rfl (cv_X10_becomes dX1_heir_32 (Or.inl q711) (by decide)) (xo_0 dX1_heir_35 rfl trivial (xo_0 dX1_heir_36 rfl trivial (xo_0 dX1_heir_37 rfl trivial (xo_c rfl (cv_X10_dies dX1_heir_38 (Or.inl q1708) (by decide)) (xo_0 dX1_heir_41 rfl trivial (xo_0 dX1_heir_42 rfl trivial (xo_0 dX1_heir_43 rfl trivial (xo_c rfl (cv_X10_chooses dX1_heir_44 (Or.inl q1641) (by decide)) (xo_0 dX1_heir_47 rfl trivial (xo_n))))))))))))))
theorem oX1_heir  : ∀ q ∈ kX1_heir, xm_okb cI RX1 cX1_heir false 162 lX1_heir q.2 q.1 := by
  intro q hq
  simp only [List.mem_cons, List.not_mem_nil, or_false] at hq
  rcases hq with rfl | rfl
  · exact oX1_heir_0  
  · exact oX1_heir_24  
def S_X1_heir : xS := cU fun as P Z I Q QX => ∃ a b L, as = [.ref 0, .int a, .int b] ∧ c_good P Z I L ∧ c_P P Z L (cG P I L) Q QX (q_heir (cG P I L) a b)
theorem body_X1_heir : xm_Body 4 0 2 12 [] lX1_heir kX1_heir S_X1_heir := by
  intro X avs w Q QX hX0 hS
  have hG := xm_go [] hX0
  have hX := xm_go [] hX0
  clear hX0
  obtain ⟨P, Z, I, rfl, a, b, L, rfl, hg, hQ⟩ := hS
  have hok := hg.ok
  obtain ⟨hn, h9, hm, h8⟩ := id hok
  have h5 := c_5 (P := P)
  have h7 := c_7 (P := P)
  have ht := hg.now
  refine ⟨rfl, ?_⟩
  repeat' (first
    | ((with_reducible refine @And.intro (vp_in _ _) _ ?_ ?_); (· (first | with_reducible assumption | ((with_reducible refine t_vin ?_); decide) | ((with_reducible refine vp_in_nI ?_ ?_) <;> first | omega | decide) | (simp (disch := omega) only [xl_n, xl_m, nI_dec, nI_sb, nI_add, pk_mul]; (with_reducible refine vp_in_nI ?_ ?_) <;> first | omega | decide))); (conv => whnf))
    | (refine And.intro (by first | with_reducible assumption | exact (show cL _ _ = _ from rfl) | decide) ?_; (conv => whnf))
    | ((with_reducible refine @And.intro (_ = _) _ ?_ ?_); (· rfl); (conv => whnf))
    | ((with_reducible refine @And.intro (@LE.le Nat _ _ _) _ ?_ ?_); (· (first | exact Nat.zero_le _ | exact Nat.le_of_ble_eq_true rfl | omega)); (conv => whnf))
    | ((with_reducible refine @And.intro (@LT.lt Nat _ _ _) _ ?_ ?_); (· omega); (conv => whnf))
    | ((with_reducible refine @And.intro (∃ _, _ = _) _ ?_ ?_); (· exact ⟨_, rfl⟩); (conv => whnf))
    | ((with_reducible refine @And.intro (_ ∨ _) _ ?_ ?_); (· (first | exact Or.inl rfl | exact Or.inr rfl | exact t_b01 _ | assumption)); (conv => whnf))
    | ((with_reducible refine @And.intro (¬ (_ = _)) _ ?_ ?_); (· first | assumption | (with_reducible assumption)); (conv => whnf))
    | (refine hX _ _ _ _ _ _ ?_; (conv => whnf); fail_if_success show False)
    | (rw [c_si]; (conv => whnf))
    | (refine ⟨_, rfl, ?_⟩; (conv => whnf))
    | (refine ⟨_, _, rfl, ?_⟩; (conv => whnf))
    | (refine ⟨_, _, _, rfl, ?_⟩; (conv => whnf))
    | (refine ⟨_, _, _, _, rfl, ?_⟩; (conv => whnf))
    | (refine ⟨a,rfl,hok,?_⟩; (conv => whnf))
    | (rw [c_tl h5]; (conv => whnf))
    | (rw [c_t7 h5]; (conv => whnf))
    | (rw [c_tf h5 (by decide)]; (conv => whnf))
    | (rw [c_t0 h5]; (conv => whnf))
    | (rw [c_t1 h5]; (conv => whnf))
    | (rw [c_t2 h5]; (conv => whnf))
    | (rw [c_t3 h5]; (conv => whnf))
    | (rw [c_t4 h5]; (conv => whnf))
    | (rw [c_t5 h5]; (conv => whnf))
    | (refine And.intro ⟨_, c_tl h5⟩ ?_; (conv => whnf))
    | fail)
  refine ⟨fun e => ?_, fun e x hx => ?_⟩
  · obtain ⟨p, hp, rfl⟩ := t_in_of (by omega) e
    have f : g_isP (cG P I L) (nI p) = true := e
    (conv => whnf)
    repeat' (first
      | ((with_reducible refine @And.intro (vp_in _ _) _ ?_ ?_); (· (first | with_reducible assumption | ((with_reducible refine t_vin ?_); decide) | ((with_reducible refine vp_in_nI ?_ ?_) <;> first | omega | decide) | (simp (disch := omega) only [xl_n, xl_m, nI_dec, nI_sb, nI_add, pk_mul]; (with_reducible refine vp_in_nI ?_ ?_) <;> first | omega | decide))); (conv => whnf))
      | (refine And.intro (by first | with_reducible assumption | exact (show cL _ _ = _ from rfl) | decide) ?_; (conv => whnf))
      | ((with_reducible refine @And.intro (_ = _) _ ?_ ?_); (· rfl); (conv => whnf))
      | ((with_reducible refine @And.intro (@LE.le Nat _ _ _) _ ?_ ?_); (· (first | exact Nat.zero_le _ | exact Nat.le_of_ble_eq_true rfl | omega)); (conv => whnf))
      | ((with_reducible refine @And.intro (@LT.lt Nat _ _ _) _ ?_ ?_); (· omega); (conv => whnf))
      | ((with_reducible refine @And.intro (∃ _, _ = _) _ ?_ ?_); (· exact ⟨_, rfl⟩); (conv => whnf))
      | ((with_reducible refine @And.intro (_ ∨ _) _ ?_ ?_); (· (first | exact Or.inl rfl | exact Or.inr rfl | exact t_b01 _ | assumption)); (conv => whnf))
      | ((with_reducible refine @And.intro (¬ (_ = _)) _ ?_ ?_); (· first | assumption | (with_reducible assumption)); (conv => whnf))
      | (refine hX _ _ _ _ _ _ ?_; (conv => whnf); fail_if_success show False)
      | (rw [c_si]; (conv => whnf))
      | (refine ⟨_, rfl, ?_⟩; (conv => whnf))
      | (refine ⟨_, _, rfl, ?_⟩; (conv => whnf))
      | (refine ⟨_, _, _, rfl, ?_⟩; (conv => whnf))
      | (refine ⟨_, _, _, _, rfl, ?_⟩; (conv => whnf))
      | (refine ⟨b,rfl,hok,?_⟩; (conv => whnf))
      | (rw [c_tl h5]; (conv => whnf))
      | (rw [c_t7 h5]; (conv => whnf))
      | (rw [c_tf h5 (by decide)]; (conv => whnf))
      | (rw [c_t0 h5]; (conv => whnf))
      | (rw [c_t1 h5]; (conv => whnf))
      | (rw [c_t2 h5]; (conv => whnf))
      | (rw [c_t3 h5]; (conv => whnf))
      | (rw [c_t4 h5]; (conv => whnf))
      | (rw [c_t5 h5]; (conv => whnf))
      | (refine And.intro ⟨_, c_tl h5⟩ ?_; (conv => whnf))
      | fail)
    refine ⟨fun e2 => ?_, fun e2 x hx => ?_⟩
    · obtain ⟨h, hh, rfl⟩ := t_in_of (by omega) e2
      have f2 : g_isH (cG P I L) (nI h) = true := e2
      have hp8 : p < 8 := by omega
      rw [q_heir, f, f2, Bool.and_self, g_ck_t, nI_clamp (by omega), nI_clamp (by omega)] at hQ
      have eh : t_has (I (10 * 5 + 1) p) h = t_has (gw (gnow (cG P I L)) p) h := by
        rw [show gw (gnow (cG P I L)) p = I (10 * 5 + 1) p from cA_gw (by omega)]
      (conv => whnf)
      repeat' (first
        | ((with_reducible refine @And.intro (vp_in _ _) _ ?_ ?_); (· (first | with_reducible assumption | ((with_reducible refine t_vin ?_); decide) | ((with_reducible refine vp_in_nI ?_ ?_) <;> first | omega | decide) | (simp (disch := omega) only [xl_n, xl_m, nI_dec, nI_sb, nI_add, pk_mul]; (with_reducible refine vp_in_nI ?_ ?_) <;> first | omega | decide))); (conv => whnf))
        | (refine And.intro (by first | with_reducible assumption | exact (show cL _ _ = _ from rfl) | decide) ?_; (conv => whnf))
        | ((with_reducible refine @And.intro (_ = _) _ ?_ ?_); (· rfl); (conv => whnf))
        | ((with_reducible refine @And.intro (@LE.le Nat _ _ _) _ ?_ ?_); (· (first | exact Nat.zero_le _ | exact Nat.le_of_ble_eq_true rfl | omega)); (conv => whnf))
        | ((with_reducible refine @And.intro (@LT.lt Nat _ _ _) _ ?_ ?_); (· omega); (conv => whnf))
        | ((with_reducible refine @And.intro (∃ _, _ = _) _ ?_ ?_); (· exact ⟨_, rfl⟩); (conv => whnf))
        | ((with_reducible refine @And.intro (_ ∨ _) _ ?_ ?_); (· (first | exact Or.inl rfl | exact Or.inr rfl | exact t_b01 _ | assumption)); (conv => whnf))
        | ((with_reducible refine @And.intro (¬ (_ = _)) _ ?_ ?_); (· first | assumption | (with_reducible assumption)); (conv => whnf))
        | (refine hX _ _ _ _ _ _ ?_; (conv => whnf); fail_if_success show False)
        | (rw [c_si]; (conv => whnf))
        | (refine ⟨_, rfl, ?_⟩; (conv => whnf))
        | (refine ⟨_, _, rfl, ?_⟩; (conv => whnf))
        | (refine ⟨_, _, _, rfl, ?_⟩; (conv => whnf))
        | (refine ⟨_, _, _, _, rfl, ?_⟩; (conv => whnf))
        | (refine ⟨5,p,h,rfl,h5,hp8,?_⟩; (conv => whnf))
        | (rw [eh]; (conv => whnf))
        | (refine ⟨7,5,L,rfl,h7,ht,?_⟩; (conv => whnf))
        | (rw [c_tl h5]; (conv => whnf))
        | (rw [c_t7 h5]; (conv => whnf))
        | (rw [c_tf h5 (by decide)]; (conv => whnf))
        | (rw [c_t0 h5]; (conv => whnf))
        | (rw [c_t1 h5]; (conv => whnf))
        | (rw [c_t2 h5]; (conv => whnf))
        | (rw [c_t3 h5]; (conv => whnf))
        | (rw [c_t4 h5]; (conv => whnf))
        | (rw [c_t5 h5]; (conv => whnf))
        | (refine And.intro ⟨_, c_tl h5⟩ ?_; (conv => whnf))
        | (rw [c_tl h7]; (conv => whnf))
        | (rw [c_t7 h7]; (conv => whnf))
        | (rw [c_tf h7 (by decide)]; (conv => whnf))
        | (rw [c_t0 h7]; (conv => whnf))
        | (rw [c_t1 h7]; (conv => whnf))
        | (rw [c_t2 h7]; (conv => whnf))
        | (rw [c_t3 h7]; (conv => whnf))
        | (rw [c_t4 h7]; (conv => whnf))
        | (rw [c_t5 h7]; (conv => whnf))
        | (refine And.intro ⟨_, c_tl h7⟩ ?_; (conv => whnf))
        | (refine And.intro (fun c => ?_) (fun c => ?_) <;> (first | (exact absurd c (by decide +kernel)) | (conv => whnf)))
        | fail)
      · have q : t_has (gw (gnow (cG P I L)) p) h = true := by
          cases x1 : t_has (gw (gnow (cG P I L)) p) h with
          | false => exact absurd ((t_b0 _).mpr x1) c
          | true => rfl
        rw [if_pos q] at hQ
        intro J hJ tJ eJ
        (conv => whnf)
        have hhJ : h < c_h J := by rw [(hJ.h h7).1]; exact hh
        repeat' (first
          | ((with_reducible refine @And.intro (vp_in _ _) _ ?_ ?_); (· (first | with_reducible assumption | ((with_reducible refine t_vin ?_); decide) | ((with_reducible refine vp_in_nI ?_ ?_) <;> first | omega | decide) | (simp (disch := omega) only [xl_n, xl_m, nI_dec, nI_sb, nI_add, pk_mul]; (with_reducible refine vp_in_nI ?_ ?_) <;> first | omega | decide))); (conv => whnf))
          | (refine And.intro (by first | with_reducible assumption | exact (show cL _ _ = _ from rfl) | decide) ?_; (conv => whnf))
          | ((with_reducible refine @And.intro (_ = _) _ ?_ ?_); (· rfl); (conv => whnf))
          | ((with_reducible refine @And.intro (@LE.le Nat _ _ _) _ ?_ ?_); (· (first | exact Nat.zero_le _ | exact Nat.le_of_ble_eq_true rfl | omega)); (conv => whnf))
          | ((with_reducible refine @And.intro (@LT.lt Nat _ _ _) _ ?_ ?_); (· omega); (conv => whnf))
          | ((with_reducible refine @And.intro (∃ _, _ = _) _ ?_ ?_); (· exact ⟨_, rfl⟩); (conv => whnf))
          | ((with_reducible refine @And.intro (_ ∨ _) _ ?_ ?_); (· (first | exact Or.inl rfl | exact Or.inr rfl | exact t_b01 _ | assumption)); (conv => whnf))
          | ((with_reducible refine @And.intro (¬ (_ = _)) _ ?_ ?_); (· first | assumption | (with_reducible assumption)); (conv => whnf))
          | (refine hX _ _ _ _ _ _ ?_; (conv => whnf); fail_if_success show False)
          | (rw [c_si]; (conv => whnf))
          | (refine ⟨_, rfl, ?_⟩; (conv => whnf))
          | (refine ⟨_, _, rfl, ?_⟩; (conv => whnf))
          | (refine ⟨_, _, _, rfl, ?_⟩; (conv => whnf))
          | (refine ⟨_, _, _, _, rfl, ?_⟩; (conv => whnf))
          | (refine ⟨7,h,L,rfl,tJ,hhJ,?_⟩; (conv => whnf))
          | (rw [c_tl h5]; (conv => whnf))
          | (rw [c_t7 h5]; (conv => whnf))
          | (rw [c_tf h5 (by decide)]; (conv => whnf))
          | (rw [c_t0 h5]; (conv => whnf))
          | (rw [c_t1 h5]; (conv => whnf))
          | (rw [c_t2 h5]; (conv => whnf))
          | (rw [c_t3 h5]; (conv => whnf))
          | (rw [c_t4 h5]; (conv => whnf))
          | (rw [c_t5 h5]; (conv => whnf))
          | (refine And.intro ⟨_, c_tl h5⟩ ?_; (conv => whnf))
          | (rw [c_tl h7]; (conv => whnf))
          | (rw [c_t7 h7]; (conv => whnf))
          | (rw [c_tf h7 (by decide)]; (conv => whnf))
          | (rw [c_t0 h7]; (conv => whnf))
          | (rw [c_t1 h7]; (conv => whnf))
          | (rw [c_t2 h7]; (conv => whnf))
          | (rw [c_t3 h7]; (conv => whnf))
          | (rw [c_t4 h7]; (conv => whnf))
          | (rw [c_t5 h7]; (conv => whnf))
          | (refine And.intro ⟨_, c_tl h7⟩ ?_; (conv => whnf))
          | (refine And.intro (fun c => ?_) (fun c => ?_) <;> (first | (exact absurd c (by decide +kernel)) | (conv => whnf)))
          | fail)
        intro K hK tK eK
        (conv => whnf)
        have hpK : p < c_p K := by rw [(hK.h h7).2, (hJ.h h7).2]; exact hp
        repeat' (first
          | ((with_reducible refine @And.intro (vp_in _ _) _ ?_ ?_); (· (first | with_reducible assumption | ((with_reducible refine t_vin ?_); decide) | ((with_reducible refine vp_in_nI ?_ ?_) <;> first | omega | decide) | (simp (disch := omega) only [xl_n, xl_m, nI_dec, nI_sb, nI_add, pk_mul]; (with_reducible refine vp_in_nI ?_ ?_) <;> first | omega | decide))); (conv => whnf))
          | (refine And.intro (by first | with_reducible assumption | exact (show cL _ _ = _ from rfl) | decide) ?_; (conv => whnf))
          | ((with_reducible refine @And.intro (_ = _) _ ?_ ?_); (· rfl); (conv => whnf))
          | ((with_reducible refine @And.intro (@LE.le Nat _ _ _) _ ?_ ?_); (· (first | exact Nat.zero_le _ | exact Nat.le_of_ble_eq_true rfl | omega)); (conv => whnf))
          | ((with_reducible refine @And.intro (@LT.lt Nat _ _ _) _ ?_ ?_); (· omega); (conv => whnf))
          | ((with_reducible refine @And.intro (∃ _, _ = _) _ ?_ ?_); (· exact ⟨_, rfl⟩); (conv => whnf))
          | ((with_reducible refine @And.intro (_ ∨ _) _ ?_ ?_); (· (first | exact Or.inl rfl | exact Or.inr rfl | exact t_b01 _ | assumption)); (conv => whnf))
          | ((with_reducible refine @And.intro (¬ (_ = _)) _ ?_ ?_); (· first | assumption | (with_reducible assumption)); (conv => whnf))
          | (refine hX _ _ _ _ _ _ ?_; (conv => whnf); fail_if_success show False)
          | (rw [c_si]; (conv => whnf))
          | (refine ⟨_, rfl, ?_⟩; (conv => whnf))
          | (refine ⟨_, _, rfl, ?_⟩; (conv => whnf))
          | (refine ⟨_, _, _, rfl, ?_⟩; (conv => whnf))
          | (refine ⟨_, _, _, _, rfl, ?_⟩; (conv => whnf))
          | (refine ⟨7,p,L,rfl,h7,tK.2.1,hpK,tK.2.2.1,tK.2.2.2.2,tK.2.2.2.1,?_⟩; (conv => whnf))
          | (rw [c_tl h5]; (conv => whnf))
          | (rw [c_t7 h5]; (conv => whnf))
          | (rw [c_tf h5 (by decide)]; (conv => whnf))
          | (rw [c_t0 h5]; (conv => whnf))
          | (rw [c_t1 h5]; (conv => whnf))
          | (rw [c_t2 h5]; (conv => whnf))
          | (rw [c_t3 h5]; (conv => whnf))
          | (rw [c_t4 h5]; (conv => whnf))
          | (rw [c_t5 h5]; (conv => whnf))
          | (refine And.intro ⟨_, c_tl h5⟩ ?_; (conv => whnf))
          | (rw [c_tl h7]; (conv => whnf))
          | (rw [c_t7 h7]; (conv => whnf))
          | (rw [c_tf h7 (by decide)]; (conv => whnf))
          | (rw [c_t0 h7]; (conv => whnf))
          | (rw [c_t1 h7]; (conv => whnf))
          | (rw [c_t2 h7]; (conv => whnf))
          | (rw [c_t3 h7]; (conv => whnf))
          | (rw [c_t4 h7]; (conv => whnf))
          | (rw [c_t5 h7]; (conv => whnf))
          | (refine And.intro ⟨_, c_tl h7⟩ ?_; (conv => whnf))
          | (refine And.intro (fun c => ?_) (fun c => ?_) <;> (first | (exact absurd c (by decide +kernel)) | (conv => whnf)))
          | fail)
        intro O hO
        (conv => whnf)
        repeat' (first
          | ((with_reducible refine @And.intro (vp_in _ _) _ ?_ ?_); (· (first | with_reducible assumption | ((with_reducible refine t_vin ?_); decide) | ((with_reducible refine vp_in_nI ?_ ?_) <;> first | omega | decide) | (simp (disch := omega) only [xl_n, xl_m, nI_dec, nI_sb, nI_add, pk_mul]; (with_reducible refine vp_in_nI ?_ ?_) <;> first | omega | decide))); (conv => whnf))
          | (refine And.intro (by first | with_reducible assumption | exact (show cL _ _ = _ from rfl) | decide) ?_; (conv => whnf))
          | ((with_reducible refine @And.intro (_ = _) _ ?_ ?_); (· rfl); (conv => whnf))
          | ((with_reducible refine @And.intro (@LE.le Nat _ _ _) _ ?_ ?_); (· (first | exact Nat.zero_le _ | exact Nat.le_of_ble_eq_true rfl | omega)); (conv => whnf))
          | ((with_reducible refine @And.intro (@LT.lt Nat _ _ _) _ ?_ ?_); (· omega); (conv => whnf))
          | ((with_reducible refine @And.intro (∃ _, _ = _) _ ?_ ?_); (· exact ⟨_, rfl⟩); (conv => whnf))
          | ((with_reducible refine @And.intro (_ ∨ _) _ ?_ ?_); (· (first | exact Or.inl rfl | exact Or.inr rfl | exact t_b01 _ | assumption)); (conv => whnf))
          | ((with_reducible refine @And.intro (¬ (_ = _)) _ ?_ ?_); (· first | assumption | (with_reducible assumption)); (conv => whnf))
          | (refine hX _ _ _ _ _ _ ?_; (conv => whnf); fail_if_success show False)
          | (rw [c_si]; (conv => whnf))
          | (refine ⟨_, rfl, ?_⟩; (conv => whnf))
          | (refine ⟨_, _, rfl, ?_⟩; (conv => whnf))
          | (refine ⟨_, _, _, rfl, ?_⟩; (conv => whnf))
          | (refine ⟨_, _, _, _, rfl, ?_⟩; (conv => whnf))
          | (refine And.intro (fun c => ?_) (fun c => ?_) <;> (first | (exact absurd c (by decide +kernel)) | (conv => whnf)))
          | fail)
        refine c_ask hQ hg ((hJ.tr hK).sp.tr hO.sp) ?_
        rw [eK, eJ, hK.K h7, hJ.K h7]
        rfl
      · have q := (t_b0 _).mp (Classical.not_not.mp c)
        rw [q, if_neg (by decide)] at hQ
        exact c_ask hQ hg c_sp.rf (by decide +kernel)
    · exact c_ref0 hQ hg (by rw [f]; exact e2) hx n1_0
  · exact c_ref0 hQ hg (by rw [show g_isP (cG P I L) a = false from e]; rfl) hx n1_0
theorem ct_X1_heir : xm_Ct cI yX1_heir (ws_ yX1_heir cX1_heir 4 (some .int)) 162 2 12 S_X1_heir := xm_enter (rt := 0) (init := false) (by decide +kernel) rfl (fun h => by cases h) (Or.inl ⟨rfl, rfl⟩) (oX1_heir) body_X1_heir
theorem cv_X1_heir {own : String} {cc : ByteArray} {fr pc idx : Nat} (hdg : decode cc pc = .ok (.invokevirtual idx, 3)) (hl : xm_ml own idx yX1_heir) (hfr : 162 < fr) : xm_CallOK cI own cc fr pc (pc + 3) 3 2 12 (xm_this 0 S_X1_heir) := xm_callV 0 cI_good (ct_X1_heir) hdg hl q1831 q1832 q116 q1833 rfl rfl (by decide +kernel) hfr (by decide)
