/-! ===== the component: undo, restore, gets ===== -/
set_option maxRecDepth 100000
theorem t_less_n {a b : Nat} (ha : a < 2 ^ 31) (hb : b < 2 ^ 31) : t_less (nI a) (nI b) = nI (min a b) := by
  unfold t_less
  by_cases q : b ≤ a
  · rw [if_pos ((nI_leI hb ha).mpr q), Nat.min_eq_right q]
  · rw [if_neg (by rw [nI_leI hb ha]; exact q), Nat.min_eq_left (by omega)]
abbrev bX1_undo_0 : List xE := [(.aload_n 0, 1, 0, 0, 0), (.iload_n 1, 2, 0, 0, 0), (.invokestatic 284, 5, 0, 0, 9), (.invokevirtual 160, 8, 0, 1, 9), (.aload_n 0, 9, 0, 0, 0), (.getfield 58, 12, 0, 5, 1), (.getfield 201, 15, 7, 6, 0), (.aload_n 0, 16, 0, 0, 0), (.getfield 62, 19, 0, 6, 1), (.getfield 201, 22, 7, 6, 0), (.isub, 23, 0, 0, 0), (.istore_n 2, 24, 0, 0, 0), (.iload_n 1, 25, 0, 0, 0), (.iload_n 2, 26, 0, 0, 0), (.invokestatic 288, 29, 0, 2, 9), (.istore_n 3, 30, 0, 0, 0), (.iload_n 3, 31, 0, 0, 0), (.ifCond .le 21, 34, 0, 52, 0), (.aload_n 0, 35, 0, 0, 0), (.getfield 58, 38, 0, 5, 1), (.aload_n 0, 39, 0, 0, 0), (.getfield 62, 42, 0, 6, 1), (.invokevirtual 110, 45, 0, 3, 9), (.iload_n 2, 46, 0, 0, 0), (.iload_n 3, 47, 0, 0, 0), (.isub, 48, 0, 0, 0), (.invokevirtual 291, 51, 0, 4, 9), (.pop, 52, 0, 0, 0)]
abbrev bX1_undo_52 : List xE := [(.iload_n 3, 53, 0, 0, 0), (.ireturn, 54, 0, 0, 0)]
abbrev kX1_undo : List (Nat × List xE) := [(0, bX1_undo_0), (52, bX1_undo_52)]
abbrev lX1_undo : List (Nat × Nat × Nat × xS) := [(1, 0, 0, S_X1_isYear), (2, 1, 6, xm_this 0 S_X1_need), (2, 0, 0, S_J12_min), (2, 0, 0, xm_this 7 S_X10_becomes), (2, 0, 0, xm_this 7 S_X10_goes_2)]
theorem oX1_undo_0  : xm_okb cI RX1 cX1_undo false 165 lX1_undo bX1_undo_0 0 := xo_0 dX1_undo_0 rfl trivial (xo_0 dX1_undo_1 rfl trivial (xo_c rfl (cv_X1_isYear dX1_undo_2 (Or.inl q1649) (by decide)) (xo_c rfl (cv_X1_need dX1_undo_5 (Or.inl q1030) (by decide)) (xo_0 dX1_undo_8 rfl trivial (xo_1 dX1_undo_9 rfl (xm_fg_of (Or.inl q724) (by decide) rfl (by decide) rfl rfl (Or.inl rfl) rfl) (xo_0 dX1_undo_12 rfl (xm_fg_of (Or.inr ⟨_, q675⟩) (by decide) rfl (by decide) rfl rfl (Or.inl rfl) rfl) (xo_0 dX1_undo_15 rfl trivial (xo_1 dX1_undo_16 rfl (xm_fg_of (Or.inl q725) (by decide) rfl (by decide) rfl rfl (Or.inl rfl) rfl) (xo_0 dX1_undo_19 rfl (xm_fg_of (Or.inr ⟨_, q675⟩) (by decide) rfl (by decide) rfl rfl (Or.inl rfl) rfl) (xo_0 dX1_undo_22 rfl trivial (xo_0 dX1_undo_23 rfl trivial (xo_0 dX1_undo_24 rfl trivial (xo_0 dX1_undo_25 rfl trivial (xo_c rfl (xc_min dX1_undo_26 q1652 (by decide)) (xo_0 dX1_undo_29 rfl trivial (xo_0 dX1_undo_30 rfl trivial (xo_0 dX1_undo_31 rfl rfl (xo_0 dX1_undo_34 rfl trivial (xo_1 dX1_undo_35 rfl (xm_fg_of (Or.inl q724) (by decide) rfl (by decide) rfl rfl (Or.inl rfl) rfl) (xo_0 dX1_undo_38 rfl trivial (xo_1 dX1_undo_39 rfl (xm_fg_of (Or.inl q725) (by decide) rfl (by decide) rfl rfl (Or.inl rfl) rfl) (xo_c rfl (cv_X10_becomes dX1_undo_42 (Or.inl q711) (by decide)) (xo_0 dX1_undo_45 rfl trivial (xo_0 dX1_undo_46 rfl trivial (xo_0 dX1_undo_47 rfl trivial (xo_c rfl (cv_X10_goes_2 dX1_undo_48 (Or.inl q1653) (by decide)) (xo_0 dX1_undo_51 rfl trivial (xo_n))))))))))))))))))))))))))))
theorem oX1_undo_52  : xm_okb cI RX1 cX1_undo false 165 lX1_undo bX1_undo_52 52 := xo_0 dX1_undo_52 rfl trivial (xo_0 dX1_undo_53 rfl trivial (xo_n))
theorem oX1_undo  : ∀ q ∈ kX1_undo, xm_okb cI RX1 cX1_undo false 165 lX1_undo q.2 q.1 := by
  intro q hq
  simp only [List.mem_cons, List.not_mem_nil, or_false] at hq
  rcases hq with rfl | rfl
  · exact oX1_undo_0  
  · exact oX1_undo_52  
def S_X1_undo : xS := cU fun as P Z I Q QX => ∃ a L, as = [.ref 0, .int a] ∧ c_good P Z I L ∧ g_ok (cG P I L) ∧ c_P P Z L (cG P I L) Q QX (q_undo (cG P I L) a)
theorem body_X1_undo : xm_Body 4 0 1 6 [] lX1_undo kX1_undo S_X1_undo := by
  intro X avs w Q QX hX0 hS
  have hG := xm_go [] hX0
  have hX := xm_go [] hX0
  clear hX0
  obtain ⟨P, Z, I, rfl, a, L, rfl, hg, hk0, hQ⟩ := hS
  have ht := hg.now
  have h5 := c_5 (P := P)
  have h6 := c_6 (P := P)
  obtain ⟨y, g, hy, hgy, ey, eg, eb⟩ := hk0.2.2.2.2.2.2
  have ey5 : I 5 6 = nI y := ey
  have eb6 : I 6 6 = nI (y - g) := eb
  have eg0 : I 5 6 - I 6 6 = nI g := eg
  refine ⟨rfl, ?_⟩
  rcases c_rc a 1 60 (A := Int32.ofInt 1) (B := Int32.ofInt 60) (by decide +kernel) (by decide +kernel) (by omega) (by omega) with ⟨n, hn1, hn6, rfl, e1⟩ | ⟨e1, -⟩ | ⟨e1, -, -⟩
  · rw [q_undo, e1, g_ck_t, eg, t_less_n (by omega) (by omega), nI_sub (Nat.min_le_right n g), nI_clamp (by omega)] at hQ
    have em : t_less (nI n) (I 5 6 - I 6 6) = nI (min n g) := by rw [eg0, t_less_n (by omega) (by omega)]
    have em2 : (I 5 6 - I 6 6) - t_less (nI n) (I 5 6 - I 6 6) = nI (g - min n g) := by rw [em, eg0, nI_sub (Nat.min_le_right n g)]
    have hyn : y - g + (g - min n g) < 100000 := by omega
    repeat' (first
      | ((with_reducible refine @And.intro (vp_in _ _) _ ?_ ?_); (· (first | with_reducible assumption | ((with_reducible refine t_vin ?_); decide) | ((with_reducible refine vp_in_nI ?_ ?_) <;> first | omega | decide) | (simp (disch := omega) only [xl_n, xl_m, nI_dec, nI_sb, nI_add, pk_mul]; (with_reducible refine vp_in_nI ?_ ?_) <;> first | omega | decide))); (conv => whnf))
      | (refine And.intro (by first | with_reducible assumption | exact (show cL _ _ = _ from rfl) | decide) ?_; (conv => whnf))
      | ((with_reducible refine @And.intro (_ = _) _ ?_ ?_); (· rfl); (conv => whnf))
      | ((with_reducible refine @And.intro (@LE.le Nat _ _ _) _ ?_ ?_); (· (first | exact Nat.zero_le _ | exact Nat.le_of_ble_eq_true rfl | omega)); (conv => whnf))
      | ((with_reducible refine @And.intro (@LT.lt Nat _ _ _) _ ?_ ?_); (· omega); (conv => whnf))
      | ((with_reducible refine @And.intro (∃ _, _ = _) _ ?_ ?_); (· exact ⟨_, rfl⟩); (conv => whnf))
      | ((with_reducible refine @And.intro (_ ∨ _) _ ?_ ?_); (· (first | exact Or.inl rfl | exact Or.inr rfl | exact t_b01 _ | assumption)); (conv => whnf))
      | ((with_reducible refine @And.intro (¬ (_ = _)) _ ?_ ?_); (· first | assumption | (with_reducible assumption)); (conv => whnf))
      | (refine hX _ _ _ _ _ _ ?_; (conv => whnf); fail_if_success show False)
      | (rw [c_si]; (conv => whnf))
      | (refine ⟨_, rfl, ?_⟩; (conv => whnf))
      | (refine ⟨_, _, rfl, ?_⟩; (conv => whnf))
      | (refine ⟨_, _, _, rfl, ?_⟩; (conv => whnf))
      | (refine ⟨_, _, _, _, rfl, ?_⟩; (conv => whnf))
      | (rw [e1]; (conv => whnf))
      | (refine ⟨true,rfl,?_⟩; (conv => whnf))
      | (refine ⟨5,6,L,rfl,h5,hg.base,?_⟩; (conv => whnf))
      | (rw [c_tl h5]; (conv => whnf))
      | (rw [c_t7 h5]; (conv => whnf))
      | (rw [c_tf h5 (by decide)]; (conv => whnf))
      | (rw [c_t0 h5]; (conv => whnf))
      | (rw [c_t1 h5]; (conv => whnf))
      | (rw [c_t2 h5]; (conv => whnf))
      | (rw [c_t3 h5]; (conv => whnf))
      | (rw [c_t4 h5]; (conv => whnf))
      | (rw [c_t5 h5]; (conv => whnf))
      | (refine And.intro ⟨_, c_tl h5⟩ ?_; (conv => whnf))
      | (rw [c_tl h6]; (conv => whnf))
      | (rw [c_t7 h6]; (conv => whnf))
      | (rw [c_tf h6 (by decide)]; (conv => whnf))
      | (rw [c_t0 h6]; (conv => whnf))
      | (rw [c_t1 h6]; (conv => whnf))
      | (rw [c_t2 h6]; (conv => whnf))
      | (rw [c_t3 h6]; (conv => whnf))
      | (rw [c_t4 h6]; (conv => whnf))
      | (rw [c_t5 h6]; (conv => whnf))
      | (refine And.intro ⟨_, c_tl h6⟩ ?_; (conv => whnf))
      | (refine And.intro (fun c => ?_) (fun c => ?_) <;> (first | (exact absurd c (by decide +kernel)) | (conv => whnf)))
      | fail)
    · have c1 : t_less (nI n) (I 5 6 - I 6 6) ≤ 0 := c
      rw [em] at c1
      have c2 : nI (min n g) ≤ nI 0 := c1
      rw [nI_leI (by omega) (by omega)] at c2
      have c3 : min n g = 0 := by omega
      rw [c3, if_pos rfl] at hQ
      exact c_ask hQ hg c_sp.rf (em.trans (by rw [c3]))
    · have c1 : ¬ t_less (nI n) (I 5 6 - I 6 6) ≤ 0 := c
      rw [em] at c1
      have c2 : ¬ nI (min n g) ≤ nI 0 := c1
      rw [nI_leI (by omega) (by omega)] at c2
      have c3 : ¬ nI (min n g) = nI 0 := fun q => c2 (by
        have := (nI_leI (a := min n g) (b := 0) (by omega) (by omega)).mp (by rw [q]; exact Int32.le_refl _)
        omega)
      rw [if_neg c3] at hQ
      intro J hJ tJ eJ
      (conv => whnf)
      have yJ : J 5 6 = nI (y - g) := by
        rw [← cA_gy (I := J) (r := 5), eJ]
        exact eb
      repeat' (first
        | ((with_reducible refine @And.intro (vp_in _ _) _ ?_ ?_); (· (first | with_reducible assumption | ((with_reducible refine t_vin ?_); decide) | ((with_reducible refine vp_in_nI ?_ ?_) <;> first | omega | decide) | (simp (disch := omega) only [xl_n, xl_m, nI_dec, nI_sb, nI_add, pk_mul]; (with_reducible refine vp_in_nI ?_ ?_) <;> first | omega | decide))); (conv => whnf))
        | (refine And.intro (by first | with_reducible assumption | exact (show cL _ _ = _ from rfl) | decide) ?_; (conv => whnf))
        | ((with_reducible refine @And.intro (_ = _) _ ?_ ?_); (· rfl); (conv => whnf))
        | ((with_reducible refine @And.intro (@LE.le Nat _ _ _) _ ?_ ?_); (· (first | exact Nat.zero_le _ | exact Nat.le_of_ble_eq_true rfl | omega)); (conv => whnf))
        | ((with_reducible refine @And.intro (@LT.lt Nat _ _ _) _ ?_ ?_); (· omega); (conv => whnf))
        | ((with_reducible refine @And.intro (∃ _, _ = _) _ ?_ ?_); (· exact ⟨_, rfl⟩); (conv => whnf))
        | ((with_reducible refine @And.intro (_ ∨ _) _ ?_ ?_); (· (first | exact Or.inl rfl | exact Or.inr rfl | exact t_b01 _ | assumption)); (conv => whnf))
        | ((with_reducible refine @And.intro (¬ (_ = _)) _ ?_ ?_); (· first | assumption | (with_reducible assumption)); (conv => whnf))
        | (refine hX _ _ _ _ _ _ ?_; (conv => whnf); fail_if_success show False)
        | (rw [c_si]; (conv => whnf))
        | (refine ⟨_, rfl, ?_⟩; (conv => whnf))
        | (refine ⟨_, _, rfl, ?_⟩; (conv => whnf))
        | (refine ⟨_, _, _, rfl, ?_⟩; (conv => whnf))
        | (refine ⟨_, _, _, _, rfl, ?_⟩; (conv => whnf))
        | (refine ⟨5,L,y-g,g-min n g,congrArg (fun z => [Value.ref 5,Value.int z]) em2,tJ,yJ,hyn,?_⟩; (conv => whnf))
        | (rw [c_tl h5]; (conv => whnf))
        | (rw [c_t7 h5]; (conv => whnf))
        | (rw [c_tf h5 (by decide)]; (conv => whnf))
        | (rw [c_t0 h5]; (conv => whnf))
        | (rw [c_t1 h5]; (conv => whnf))
        | (rw [c_t2 h5]; (conv => whnf))
        | (rw [c_t3 h5]; (conv => whnf))
        | (rw [c_t4 h5]; (conv => whnf))
        | (rw [c_t5 h5]; (conv => whnf))
        | (refine And.intro ⟨_, c_tl h5⟩ ?_; (conv => whnf))
        | (rw [c_tl h6]; (conv => whnf))
        | (rw [c_t7 h6]; (conv => whnf))
        | (rw [c_tf h6 (by decide)]; (conv => whnf))
        | (rw [c_t0 h6]; (conv => whnf))
        | (rw [c_t1 h6]; (conv => whnf))
        | (rw [c_t2 h6]; (conv => whnf))
        | (rw [c_t3 h6]; (conv => whnf))
        | (rw [c_t4 h6]; (conv => whnf))
        | (rw [c_t5 h6]; (conv => whnf))
        | (refine And.intro ⟨_, c_tl h6⟩ ?_; (conv => whnf))
        | (refine And.intro (fun c => ?_) (fun c => ?_) <;> (first | (exact absurd c (by decide +kernel)) | (conv => whnf)))
        | fail)
      intro K hK tK eK
      (conv => whnf)
      have hs := hJ.tr hK
      have hkw := hs.kw (Or.inl rfl)
      obtain ⟨eA6, e66, td6⟩ := hs.td h5 h6 (by decide) hg.base.td
      have e56 : K 5 6 = nI (y - g + (g - min n g)) := by
        rw [← cA_gy (I := K) (r := 5), eK, eJ]
        exact gy_gos _ (gbase (cG P I L)) eb _
      have fin := hQ.1 K (hkw.good hg tK.td td6) (by
        rw [hkw.G hg, eK, eJ, eA6, e56, e66, eb6, nI_sub (by omega), hJ.K h5, show y - g + (g - min n g) - (y - g) = g - min n g by omega]
        rfl) rfl
      repeat' (first
        | ((with_reducible refine @And.intro (vp_in _ _) _ ?_ ?_); (· (first | with_reducible assumption | ((with_reducible refine t_vin ?_); decide) | ((with_reducible refine vp_in_nI ?_ ?_) <;> first | omega | decide) | (simp (disch := omega) only [xl_n, xl_m, nI_dec, nI_sb, nI_add, pk_mul]; (with_reducible refine vp_in_nI ?_ ?_) <;> first | omega | decide))); (conv => whnf))
        | (refine And.intro (by first | with_reducible assumption | exact (show cL _ _ = _ from rfl) | decide) ?_; (conv => whnf))
        | ((with_reducible refine @And.intro (_ = _) _ ?_ ?_); (· rfl); (conv => whnf))
        | ((with_reducible refine @And.intro (@LE.le Nat _ _ _) _ ?_ ?_); (· (first | exact Nat.zero_le _ | exact Nat.le_of_ble_eq_true rfl | omega)); (conv => whnf))
        | ((with_reducible refine @And.intro (@LT.lt Nat _ _ _) _ ?_ ?_); (· omega); (conv => whnf))
        | ((with_reducible refine @And.intro (∃ _, _ = _) _ ?_ ?_); (· exact ⟨_, rfl⟩); (conv => whnf))
        | ((with_reducible refine @And.intro (_ ∨ _) _ ?_ ?_); (· (first | exact Or.inl rfl | exact Or.inr rfl | exact t_b01 _ | assumption)); (conv => whnf))
        | ((with_reducible refine @And.intro (¬ (_ = _)) _ ?_ ?_); (· first | assumption | (with_reducible assumption)); (conv => whnf))
        | (refine hX _ _ _ _ _ _ ?_; (conv => whnf); fail_if_success show False)
        | (rw [c_si]; (conv => whnf))
        | (refine ⟨_, rfl, ?_⟩; (conv => whnf))
        | (refine ⟨_, _, rfl, ?_⟩; (conv => whnf))
        | (refine ⟨_, _, _, rfl, ?_⟩; (conv => whnf))
        | (refine ⟨_, _, _, _, rfl, ?_⟩; (conv => whnf))
        | (refine And.intro (fun c => ?_) (fun c => ?_) <;> (first | (exact absurd c (by decide +kernel)) | (conv => whnf)))
        | fail)
      exact t_q fin em
  all_goals
    repeat' (first
      | ((with_reducible refine @And.intro (vp_in _ _) _ ?_ ?_); (· (first | with_reducible assumption | ((with_reducible refine t_vin ?_); decide) | ((with_reducible refine vp_in_nI ?_ ?_) <;> first | omega | decide) | (simp (disch := omega) only [xl_n, xl_m, nI_dec, nI_sb, nI_add, pk_mul]; (with_reducible refine vp_in_nI ?_ ?_) <;> first | omega | decide))); (conv => whnf))
      | (refine And.intro (by first | with_reducible assumption | exact (show cL _ _ = _ from rfl) | decide) ?_; (conv => whnf))
      | ((with_reducible refine @And.intro (_ = _) _ ?_ ?_); (· rfl); (conv => whnf))
      | ((with_reducible refine @And.intro (@LE.le Nat _ _ _) _ ?_ ?_); (· (first | exact Nat.zero_le _ | exact Nat.le_of_ble_eq_true rfl | omega)); (conv => whnf))
      | ((with_reducible refine @And.intro (@LT.lt Nat _ _ _) _ ?_ ?_); (· omega); (conv => whnf))
      | ((with_reducible refine @And.intro (∃ _, _ = _) _ ?_ ?_); (· exact ⟨_, rfl⟩); (conv => whnf))
      | ((with_reducible refine @And.intro (_ ∨ _) _ ?_ ?_); (· (first | exact Or.inl rfl | exact Or.inr rfl | exact t_b01 _ | assumption)); (conv => whnf))
      | ((with_reducible refine @And.intro (¬ (_ = _)) _ ?_ ?_); (· first | assumption | (with_reducible assumption)); (conv => whnf))
      | (refine hX _ _ _ _ _ _ ?_; (conv => whnf); fail_if_success show False)
      | (rw [c_si]; (conv => whnf))
      | (refine ⟨_, rfl, ?_⟩; (conv => whnf))
      | (refine ⟨_, _, rfl, ?_⟩; (conv => whnf))
      | (refine ⟨_, _, _, rfl, ?_⟩; (conv => whnf))
      | (refine ⟨_, _, _, _, rfl, ?_⟩; (conv => whnf))
      | (rw [e1]; (conv => whnf))
      | (refine ⟨false,rfl,?_⟩; (conv => whnf))
      | (refine And.intro (fun c => ?_) (fun c => ?_) <;> (first | (exact absurd c (by decide +kernel)) | (conv => whnf)))
      | fail)
    intro x hx
    exact c_ref1 hQ hg e1 hx n1_0
theorem ct_X1_undo : xm_Ct cI yX1_undo (ws_ yX1_undo cX1_undo 4 (some .int)) 165 1 6 S_X1_undo := xm_enter (rt := 0) (init := false) (by decide +kernel) rfl (fun h => by cases h) (Or.inl ⟨rfl, rfl⟩) (oX1_undo) body_X1_undo
theorem cv_X1_undo {own : String} {cc : ByteArray} {fr pc idx : Nat} (hdg : decode cc pc = .ok (.invokevirtual idx, 3)) (hl : xm_ml own idx yX1_undo) (hfr : 165 < fr) : xm_CallOK cI own cc fr pc (pc + 3) 2 1 6 (xm_this 0 S_X1_undo) := xm_callV 0 cI_good (ct_X1_undo) hdg hl q1662 q1663 q116 q1664 rfl rfl (by decide +kernel) hfr (by decide)
