/-! ===== the component: years ===== -/
set_option maxRecDepth 100000
abbrev bX1_isYear_0 : List xE := [(.iload_n 0, 1, 0, 0, 0), (.iconst 1, 2, 0, 0, 0), (.if_icmp .lt 13, 5, 0, 15, 0), (.iload_n 0, 6, 0, 0, 0), (.bipush 60, 8, 0, 0, 0), (.if_icmp .gt 7, 11, 0, 15, 0), (.iconst 1, 12, 0, 0, 0), (.goto 4, 15, 0, 16, 0)]
abbrev bX1_isYear_15 : List xE := [(.iconst 0, 16, 0, 0, 0)]
abbrev bX1_isYear_16 : List xE := [(.ireturn, 17, 0, 0, 0)]
abbrev kX1_isYear : List (Nat × List xE) := [(0, bX1_isYear_0), (15, bX1_isYear_15), (16, bX1_isYear_16)]
abbrev lX1_isYear : List (Nat × Nat × Nat × xS) := []
theorem oX1_isYear_0  : xm_okb cI RX1 cX1_isYear false 1 lX1_isYear bX1_isYear_0 0 := xo_0 dX1_isYear_0 rfl trivial (xo_0 dX1_isYear_1 rfl trivial (xo_0 dX1_isYear_2 rfl rfl (xo_0 dX1_isYear_5 rfl trivial (xo_0 dX1_isYear_6 rfl (xo_bipush (by decide +kernel)) (xo_0 dX1_isYear_8 rfl rfl (xo_0 dX1_isYear_11 rfl trivial (xo_0 dX1_isYear_12 rfl rfl (xo_n))))))))
theorem oX1_isYear_15  : xm_okb cI RX1 cX1_isYear false 1 lX1_isYear bX1_isYear_15 15 := xo_0 dX1_isYear_15 rfl trivial (xo_n)
theorem oX1_isYear_16  : xm_okb cI RX1 cX1_isYear false 1 lX1_isYear bX1_isYear_16 16 := xo_0 dX1_isYear_16 rfl trivial (xo_n)
theorem oX1_isYear  : ∀ q ∈ kX1_isYear, xm_okb cI RX1 cX1_isYear false 1 lX1_isYear q.2 q.1 := by
  intro q hq
  simp only [List.mem_cons, List.not_mem_nil, or_false] at hq
  rcases hq with rfl | rfl | rfl
  · exact oX1_isYear_0  
  · exact oX1_isYear_15  
  · exact oX1_isYear_16  
def S_X1_isYear : xS := fun as w Q _ => ∃ a, as = [.int a] ∧ Q (some (.int (t_b (t_in a (nI 1) (nI 60))))) w
theorem body_X1_isYear : xm_Body 1 1 0 0 [] lX1_isYear kX1_isYear S_X1_isYear := by
  intro X avs w Q QX hX0 hS
  have hG := xm_go [] hX0
  have hX := xm_go [] hX0
  clear hX0
  obtain ⟨a, rfl, hQ⟩ := hS
  refine ⟨rfl, ?_⟩
  rcases c_rc a 1 60 (A := Int32.ofInt 1) (B := Int32.ofInt 60) (by decide +kernel) (by decide +kernel) (by omega) (by omega) with ⟨n, hn1, hn6, rfl, e1⟩ | ⟨e1, h1⟩ | ⟨e1, h1, h2⟩
  · have d1 : ¬ nI n < Int32.ofInt 1 := fun q => by
      have : nI 1 ≤ nI n := (nI_leI (by omega) (by omega)).mpr hn1
      exact absurd this (Int32.not_le.mpr q)
    have d2 : ¬ Int32.ofInt 60 < nI n := fun q => by
      have : nI n ≤ nI 60 := (nI_leI (by omega) (by omega)).mpr hn6
      exact absurd this (Int32.not_le.mpr q)
    rw [e1] at hQ
    repeat' (first
      | ((with_reducible refine @And.intro (vp_in _ _) _ ?_ ?_); (· (first | with_reducible assumption | ((with_reducible refine t_vin ?_); decide) | ((with_reducible refine vp_in_nI ?_ ?_) <;> first | omega | decide) | (simp (disch := omega) only [xl_n, xl_m, nI_dec, nI_sb, nI_add, pk_mul]; (with_reducible refine vp_in_nI ?_ ?_) <;> first | omega | decide))); (conv => whnf))
      | (refine And.intro (by first | with_reducible assumption | exact (show cL _ _ = _ from rfl) | decide) ?_; (conv => whnf))
      | ((with_reducible refine @And.intro (_ = _) _ ?_ ?_); (· rfl); (conv => whnf))
      | ((with_reducible refine @And.intro (@LE.le Nat _ _ _) _ ?_ ?_); (· (first | exact Nat.zero_le _ | exact Nat.le_of_ble_eq_true rfl | omega)); (conv => whnf))
      | ((with_reducible refine @And.intro (@LT.lt Nat _ _ _) _ ?_ ?_); (· omega); (conv => whnf))
      | ((with_reducible refine @And.intro (∃ _, _ = _) _ ?_ ?_); (· exact ⟨_, rfl⟩); (conv => whnf))
      | ((with_reducible refine @And.intro (_ ∨ _) _ ?_ ?_); (· (first | exact Or.inl rfl | exact Or.inr rfl | exact t_b01 _ | assumption)); (conv => whnf))
      | ((with_reducible refine @And.intro (¬ (_ = _)) _ ?_ ?_); (· first | assumption | (with_reducible assumption)); (conv => whnf))
      | (refine hX _ _ _ _ _ _ ?_; (conv => whnf); fail_if_success show False)
      | (rw [c_si]; (conv => whnf))
      | (refine ⟨_, rfl, ?_⟩; (conv => whnf))
      | (refine ⟨_, _, rfl, ?_⟩; (conv => whnf))
      | (refine ⟨_, _, _, rfl, ?_⟩; (conv => whnf))
      | (refine ⟨_, _, _, _, rfl, ?_⟩; (conv => whnf))
      | (refine And.intro (fun c => ?_) (fun c => ?_) <;> (first | (exact absurd c (by decide +kernel)) | (exact absurd c (by assumption)) | (exact False.elim (c (by assumption))) | (conv => whnf)))
      | fail)
    exact hQ
  all_goals
    rw [e1] at hQ
    repeat' (first
      | ((with_reducible refine @And.intro (vp_in _ _) _ ?_ ?_); (· (first | with_reducible assumption | ((with_reducible refine t_vin ?_); decide) | ((with_reducible refine vp_in_nI ?_ ?_) <;> first | omega | decide) | (simp (disch := omega) only [xl_n, xl_m, nI_dec, nI_sb, nI_add, pk_mul]; (with_reducible refine vp_in_nI ?_ ?_) <;> first | omega | decide))); (conv => whnf))
      | (refine And.intro (by first | with_reducible assumption | exact (show cL _ _ = _ from rfl) | decide) ?_; (conv => whnf))
      | ((with_reducible refine @And.intro (_ = _) _ ?_ ?_); (· rfl); (conv => whnf))
      | ((with_reducible refine @And.intro (@LE.le Nat _ _ _) _ ?_ ?_); (· (first | exact Nat.zero_le _ | exact Nat.le_of_ble_eq_true rfl | omega)); (conv => whnf))
      | ((with_reducible refine @And.intro (@LT.lt Nat _ _ _) _ ?_ ?_); (· omega); (conv => whnf))
      | ((with_reducible refine @And.intro (∃ _, _ = _) _ ?_ ?_); (· exact ⟨_, rfl⟩); (conv => whnf))
      | ((with_reducible refine @And.intro (_ ∨ _) _ ?_ ?_); (· (first | exact Or.inl rfl | exact Or.inr rfl | exact t_b01 _ | assumption)); (conv => whnf))
      | ((with_reducible refine @And.intro (¬ (_ = _)) _ ?_ ?_); (· first | assumption | (with_reducible assumption)); (conv => whnf))
      | (refine hX _ _ _ _ _ _ ?_; (conv => whnf); fail_if_success show False)
      | (rw [c_si]; (conv => whnf))
      | (refine ⟨_, rfl, ?_⟩; (conv => whnf))
      | (refine ⟨_, _, rfl, ?_⟩; (conv => whnf))
      | (refine ⟨_, _, _, rfl, ?_⟩; (conv => whnf))
      | (refine ⟨_, _, _, _, rfl, ?_⟩; (conv => whnf))
      | (refine And.intro (fun c => ?_) (fun c => ?_) <;> (first | (exact absurd c (by decide +kernel)) | (exact absurd c (by assumption)) | (exact False.elim (c (by assumption))) | (conv => whnf)))
      | fail)
    exact hQ
theorem ct_X1_isYear : xm_Ct cI yX1_isYear (ws_ yX1_isYear cX1_isYear 1 (some .boolean)) 1 0 0 S_X1_isYear := xm_enter (rt := 1) (init := false) (by decide +kernel) rfl (fun h => by cases h) (Or.inr (Or.inl ⟨rfl, Or.inl rfl⟩)) (oX1_isYear) body_X1_isYear
theorem cv_X1_isYear {own : String} {cc : ByteArray} {fr pc idx : Nat} (hdg : decode cc pc = .ok (.invokestatic idx, 3)) (hl : xm_ml own idx yX1_isYear) (hfr : 1 < fr) : xm_CallOK cI own cc fr pc (pc + 3) 1 0 0 S_X1_isYear := xm_callS cI_good (ct_X1_isYear) hdg hl q1650 q116 q1651 (by decide +kernel) hfr (by decide)
abbrev bX1_keepsBase_0 : List xE := [(.aload_n 0, 1, 0, 0, 0), (.getfield 62, 4, 0, 6, 1), (.aload_n 0, 5, 0, 0, 0), (.getfield 58, 8, 0, 5, 1), (.invokevirtual 110, 11, 0, 0, 9), (.pop, 12, 0, 0, 0), (.return_, 13, 0, 0, 0)]
abbrev kX1_keepsBase : List (Nat × List xE) := [(0, bX1_keepsBase_0)]
abbrev lX1_keepsBase : List (Nat × Nat × Nat × xS) := [(2, 0, 0, xm_this 7 S_X10_becomes)]
theorem oX1_keepsBase_0  : xm_okb cI RX1 cX1_keepsBase false 3 lX1_keepsBase bX1_keepsBase_0 0 := xo_0 dX1_keepsBase_0 rfl trivial (xo_1 dX1_keepsBase_1 rfl (xm_fg_of (Or.inl q725) (by decide) rfl (by decide) rfl rfl (Or.inl rfl) rfl) (xo_0 dX1_keepsBase_4 rfl trivial (xo_1 dX1_keepsBase_5 rfl (xm_fg_of (Or.inl q724) (by decide) rfl (by decide) rfl rfl (Or.inl rfl) rfl) (xo_c rfl (cv_X10_becomes dX1_keepsBase_8 (Or.inl q711) (by decide)) (xo_0 dX1_keepsBase_11 rfl trivial (xo_0 dX1_keepsBase_12 rfl trivial (xo_n)))))))
theorem oX1_keepsBase  : ∀ q ∈ kX1_keepsBase, xm_okb cI RX1 cX1_keepsBase false 3 lX1_keepsBase q.2 q.1 := by
  intro q hq
  simp only [List.mem_cons, List.not_mem_nil, or_false] at hq
  subst hq
  exact oX1_keepsBase_0  
def S_X1_keepsBase : xS := cU fun as P Z I Q QX => ∃ L, as = [.ref 0] ∧ c_ts P Z I 5 L ∧ ∀ J, c_sc 6 I J → c_ts P Z J 6 L → cA J 6 = cA I 5 → Q none J
theorem body_X1_keepsBase : xm_Body 1 2 0 0 [] lX1_keepsBase kX1_keepsBase S_X1_keepsBase := by
  intro X avs w Q QX hX0 hS
  have hG := xm_go [] hX0
  have hX := xm_go [] hX0
  clear hX0
  obtain ⟨P, Z, I, rfl, L, rfl, ht, hQ⟩ := hS
  have h6 := c_6 (P := P)
  refine ⟨rfl, ?_⟩
  repeat' (first
    | ((with_reducible refine @And.intro (vp_in _ _) _ ?_ ?_); (· (first | with_reducible assumption | ((with_reducible refine t_vin ?_); decide) | ((with_reducible refine vp_in_nI ?_ ?_) <;> first | omega | decide) | (simp (disch := omega) only [xl_n, xl_m, nI_dec, nI_sb, nI_add, pk_mul]; (with_reducible refine vp_in_nI ?_ ?_) <;> first | omega | decide))); (conv => whnf))
    | (refine And.intro (by first | with_reducible assumption | exact (show cL _ _ = _ from rfl) | decide) ?_; (conv => whnf))
    | ((with_reducible refine @And.intro (_ = _) _ ?_ ?_); (· rfl); (conv => whnf))
    | ((with_reducible refine @And.intro (@LE.le Nat _ _ _) _ ?_ ?_); (· (first | exact Nat.zero_le _ | exact Nat.le_of_ble_eq_true rfl | omega)); (conv => whnf))
    | ((with_reducible refine @And.intro (@LT.lt Nat _ _ _) _ ?_ ?_); (· omega); (conv => whnf))
    | ((with_reducible refine @And.intro (∃ _, _ = _) _ ?_ ?_); (· exact ⟨_, rfl⟩); (conv => whnf))
    | ((with_reducible refine @And.intro (_ ∨ _) _ ?_ ?_); (· (first | exact Or.inl rfl | exact Or.inr rfl | exact t_b01 _ | assumption)); (conv => whnf))
    | ((with_reducible refine @And.intro (¬ (_ = _)) _ ?_ ?_); (· first | assumption | (with_reducible assumption)); (conv => whnf))
    | (refine hX _ _ _ _ _ _ ?_; (conv => whnf); fail_if_success show False)
    | (rw [c_si]; (conv => whnf))
    | (refine ⟨_, rfl, ?_⟩; (conv => whnf))
    | (refine ⟨_, _, rfl, ?_⟩; (conv => whnf))
    | (refine ⟨_, _, _, rfl, ?_⟩; (conv => whnf))
    | (refine ⟨_, _, _, _, rfl, ?_⟩; (conv => whnf))
    | (refine ⟨6,5,L,rfl,h6,ht,?_⟩; (conv => whnf))
    | (rw [c_tl h6]; (conv => whnf))
    | (rw [c_t7 h6]; (conv => whnf))
    | (rw [c_tf h6 (by decide)]; (conv => whnf))
    | (rw [c_t0 h6]; (conv => whnf))
    | (rw [c_t1 h6]; (conv => whnf))
    | (rw [c_t2 h6]; (conv => whnf))
    | (rw [c_t3 h6]; (conv => whnf))
    | (rw [c_t4 h6]; (conv => whnf))
    | (rw [c_t5 h6]; (conv => whnf))
    | (refine And.intro ⟨_, c_tl h6⟩ ?_; (conv => whnf))
    | (refine And.intro (fun c => ?_) (fun c => ?_) <;> (first | (exact absurd c (by decide +kernel)) | (conv => whnf)))
    | fail)
  intro J h1 t1 e1
  (conv => whnf)
  have fin := hQ J h1 t1 e1
  repeat' (first
    | ((with_reducible refine @And.intro (vp_in _ _) _ ?_ ?_); (· (first | with_reducible assumption | ((with_reducible refine t_vin ?_); decide) | ((with_reducible refine vp_in_nI ?_ ?_) <;> first | omega | decide) | (simp (disch := omega) only [xl_n, xl_m, nI_dec, nI_sb, nI_add, pk_mul]; (with_reducible refine vp_in_nI ?_ ?_) <;> first | omega | decide))); (conv => whnf))
    | (refine And.intro (by first | with_reducible assumption | exact (show cL _ _ = _ from rfl) | decide) ?_; (conv => whnf))
    | ((with_reducible refine @And.intro (_ = _) _ ?_ ?_); (· rfl); (conv => whnf))
    | ((with_reducible refine @And.intro (@LE.le Nat _ _ _) _ ?_ ?_); (· (first | exact Nat.zero_le _ | exact Nat.le_of_ble_eq_true rfl | omega)); (conv => whnf))
    | ((with_reducible refine @And.intro (@LT.lt Nat _ _ _) _ ?_ ?_); (· omega); (conv => whnf))
    | ((with_reducible refine @And.intro (∃ _, _ = _) _ ?_ ?_); (· exact ⟨_, rfl⟩); (conv => whnf))
    | ((with_reducible refine @And.intro (_ ∨ _) _ ?_ ?_); (· (first | exact Or.inl rfl | exact Or.inr rfl | exact t_b01 _ | assumption)); (conv => whnf))
    | ((with_reducible refine @And.intro (¬ (_ = _)) _ ?_ ?_); (· first | assumption | (with_reducible assumption)); (conv => whnf))
    | (refine hX _ _ _ _ _ _ ?_; (conv => whnf); fail_if_success show False)
    | (rw [c_si]; (conv => whnf))
    | (refine ⟨_, rfl, ?_⟩; (conv => whnf))
    | (refine ⟨_, _, rfl, ?_⟩; (conv => whnf))
    | (refine ⟨_, _, _, rfl, ?_⟩; (conv => whnf))
    | (refine ⟨_, _, _, _, rfl, ?_⟩; (conv => whnf))
    | (refine And.intro (fun c => ?_) (fun c => ?_) <;> (first | (exact absurd c (by decide +kernel)) | (conv => whnf)))
    | fail)
  exact fin
theorem ct_X1_keepsBase : xm_Ct cI yX1_keepsBase (ws_ yX1_keepsBase cX1_keepsBase 1 none) 3 0 0 S_X1_keepsBase := xm_enter (rt := 2) (init := false) (by decide +kernel) rfl (fun h => by cases h) (Or.inr (Or.inr (Or.inl ⟨rfl, rfl⟩))) (oX1_keepsBase) body_X1_keepsBase
theorem cv_X1_keepsBase {own : String} {cc : ByteArray} {fr pc idx : Nat} (hdg : decode cc pc = .ok (.invokevirtual idx, 3)) (hl : xm_ml own idx yX1_keepsBase) (hfr : 3 < fr) : xm_CallOK cI own cc fr pc (pc + 3) 1 0 0 (xm_this 0 S_X1_keepsBase) := xm_callV 0 cI_good (ct_X1_keepsBase) hdg hl q709 qs2 q116 q710 rfl rfl (by decide +kernel) hfr (by decide)
theorem xl_n2 : Int32.ofInt 200 = nI 200 := by decide +kernel
abbrev bX1_years_0 : List xE := [(.aload_n 0, 1, 0, 0, 0), (.iload_n 1, 2, 0, 0, 0), (.invokestatic 284, 5, 0, 0, 9), (.invokevirtual 160, 8, 0, 1, 9), (.aload_n 0, 9, 0, 0, 0), (.getfield 58, 12, 0, 5, 1), (.iload_n 1, 13, 0, 0, 0), (.sipush 200, 16, 0, 0, 0), (.aload_n 0, 17, 0, 0, 0), (.getfield 58, 20, 0, 5, 1), (.getfield 201, 23, 7, 6, 0), (.isub, 24, 0, 0, 0), (.invokestatic 288, 27, 0, 2, 9), (.invokevirtual 291, 30, 0, 3, 9), (.pop, 31, 0, 0, 0), (.aload_n 0, 32, 0, 0, 0), (.getfield 58, 35, 0, 5, 1), (.getfield 201, 38, 7, 6, 0), (.ireturn, 39, 0, 0, 0)]
abbrev kX1_years : List (Nat × List xE) := [(0, bX1_years_0)]
abbrev lX1_years : List (Nat × Nat × Nat × xS) := [(1, 0, 0, S_X1_isYear), (2, 1, 6, xm_this 0 S_X1_need), (2, 0, 0, S_J12_min), (2, 0, 0, xm_this 7 S_X10_goes_2)]
theorem oX1_years_0  : xm_okb cI RX1 cX1_years false 165 lX1_years bX1_years_0 0 := xo_0 dX1_years_0 rfl trivial (xo_0 dX1_years_1 rfl trivial (xo_c rfl (cv_X1_isYear dX1_years_2 (Or.inl q1649) (by decide)) (xo_c rfl (cv_X1_need dX1_years_5 (Or.inl q1030) (by decide)) (xo_0 dX1_years_8 rfl trivial (xo_1 dX1_years_9 rfl (xm_fg_of (Or.inl q724) (by decide) rfl (by decide) rfl rfl (Or.inl rfl) rfl) (xo_0 dX1_years_12 rfl trivial (xo_0 dX1_years_13 rfl (xo_sipush (by decide +kernel)) (xo_0 dX1_years_16 rfl trivial (xo_1 dX1_years_17 rfl (xm_fg_of (Or.inl q724) (by decide) rfl (by decide) rfl rfl (Or.inl rfl) rfl) (xo_0 dX1_years_20 rfl (xm_fg_of (Or.inr ⟨_, q675⟩) (by decide) rfl (by decide) rfl rfl (Or.inl rfl) rfl) (xo_0 dX1_years_23 rfl trivial (xo_c rfl (xc_min dX1_years_24 q1652 (by decide)) (xo_c rfl (cv_X10_goes_2 dX1_years_27 (Or.inl q1653) (by decide)) (xo_0 dX1_years_30 rfl trivial (xo_0 dX1_years_31 rfl trivial (xo_1 dX1_years_32 rfl (xm_fg_of (Or.inl q724) (by decide) rfl (by decide) rfl rfl (Or.inl rfl) rfl) (xo_0 dX1_years_35 rfl (xm_fg_of (Or.inr ⟨_, q675⟩) (by decide) rfl (by decide) rfl rfl (Or.inl rfl) rfl) (xo_0 dX1_years_38 rfl trivial (xo_n)))))))))))))))))))
theorem oX1_years  : ∀ q ∈ kX1_years, xm_okb cI RX1 cX1_years false 165 lX1_years q.2 q.1 := by
  intro q hq
  simp only [List.mem_cons, List.not_mem_nil, or_false] at hq
  subst hq
  exact oX1_years_0  
def S_X1_years : xS := cU fun as P Z I Q QX => ∃ a L, as = [.ref 0, .int a] ∧ c_good P Z I L ∧ g_ok (cG P I L) ∧ c_P P Z L (cG P I L) Q QX (q_years (cG P I L) a)
theorem body_X1_years : xm_Body 2 0 1 6 [] lX1_years kX1_years S_X1_years := by
  intro X avs w Q QX hX0 hS
  have hG := xm_go [] hX0
  have hX := xm_go [] hX0
  clear hX0
  obtain ⟨P, Z, I, rfl, a, L, rfl, hg, hk0, hQ⟩ := hS
  have ht := hg.now
  have h5 := c_5 (P := P)
  obtain ⟨y, hy, ey⟩ := hk0.now.1
  have ey5 : I 5 6 = nI y := ey
  refine ⟨rfl, ?_⟩
  rcases c_rc a 1 60 (A := Int32.ofInt 1) (B := Int32.ofInt 60) (by decide +kernel) (by decide +kernel) (by omega) (by omega) with ⟨n, hn1, hn6, rfl, e1⟩ | ⟨e1, -⟩ | ⟨e1, -, -⟩
  · rw [q_years, e1, g_ck_t, nI_clamp (by omega), g_yrs_gos ey hy n (by omega)] at hQ
    have em : t_less (nI n) (Int32.ofInt 200 - I 5 6) = nI (min n (200 - y)) := by
      rw [ey5, xl_n2, nI_sub hy]
      unfold t_less
      by_cases q : 200 - y ≤ n
      · rw [if_pos ((nI_leI (by omega) (by omega)).mpr q), Nat.min_eq_right q]
      · rw [if_neg (by rw [nI_leI (by omega) (by omega)]; exact q), Nat.min_eq_left (by omega)]
    have hm : y + min n (200 - y) < 100000 := by omega
    repeat' (first
      | ((with_reducible refine @And.intro (vp_in _ _) _ ?_ ?_); (· (first | with_reducible assumption | ((with_reducible refine t_vin ?_); decide) | ((with_reducible refine vp_in_nI ?_ ?_) <;> first | omega | decide) | (simp (disch := omega) only [xl_n, xl_m, nI_dec, nI_sb, nI_add, pk_mul]; (with_reducible refine vp_in_nI ?_ ?_) <;> first | omega | decide))); (conv => whnf))
      | (refine And.intro (by first | with_reducible assumption | exact (show cL _ _ = _ from rfl) | decide) ?_; (conv => whnf))
      | ((with_reducible refine @And.intro (_ = _) _ ?_ ?_); (· rfl); (conv => whnf))
      | ((with_reducible refine @And.intro (@LE.le Nat _ _ _) _ ?_ ?_); (· (first | exact Nat.zero_le _ | exact Nat.le_of_ble_eq_true rfl | omega)); (conv => whnf))
      | ((with_reducible refine @And.intro (@LT.lt Nat _ _ _) _ ?_ ?_); (· omega); (conv => whnf))
      | ((with_reducible refine @And.intro (∃ _, _ = _) _ ?_ ?_); (· exact ⟨_, rfl⟩); (conv => whnf))
      | ((with_reducible refine @And.intro (_ ∨ _) _ ?_ ?_); (· (first | exact Or.inl rfl | exact Or.inr rfl | exact t_b01 _ | assumption)); (conv => whnf))
      | ((with_reducible refine @And.intro (¬ (_ = _)) _ ?_ ?_); (· first | assumption | (with_reducible assumption)); (conv => whnf))
      | (refine hX _ _ _ _ _ _ ?_; (conv => whnf); fail_if_success show False)
      | (rw [c_si]; (conv => whnf))
      | (refine ⟨_, rfl, ?_⟩; (conv => whnf))
      | (refine ⟨_, _, rfl, ?_⟩; (conv => whnf))
      | (refine ⟨_, _, _, rfl, ?_⟩; (conv => whnf))
      | (refine ⟨_, _, _, _, rfl, ?_⟩; (conv => whnf))
      | (rw [e1]; (conv => whnf))
      | (refine ⟨true,rfl,?_⟩; (conv => whnf))
      | (refine ⟨5,L,y,min n (200-y),congrArg (fun z => [Value.ref 5,Value.int z]) em,ht,ey5,hm,?_⟩; (conv => whnf))
      | (rw [c_tl h5]; (conv => whnf))
      | (rw [c_t7 h5]; (conv => whnf))
      | (rw [c_tf h5 (by decide)]; (conv => whnf))
      | (rw [c_t0 h5]; (conv => whnf))
      | (rw [c_t1 h5]; (conv => whnf))
      | (rw [c_t2 h5]; (conv => whnf))
      | (rw [c_t3 h5]; (conv => whnf))
      | (rw [c_t4 h5]; (conv => whnf))
      | (rw [c_t5 h5]; (conv => whnf))
      | (refine And.intro ⟨_, c_tl h5⟩ ?_; (conv => whnf))
      | (refine And.intro (fun c => ?_) (fun c => ?_) <;> (first | (exact absurd c (by decide +kernel)) | (conv => whnf)))
      | fail)
    intro J h1 t1 eA
    (conv => whnf)
    repeat' (first
      | ((with_reducible refine @And.intro (vp_in _ _) _ ?_ ?_); (· (first | with_reducible assumption | ((with_reducible refine t_vin ?_); decide) | ((with_reducible refine vp_in_nI ?_ ?_) <;> first | omega | decide) | (simp (disch := omega) only [xl_n, xl_m, nI_dec, nI_sb, nI_add, pk_mul]; (with_reducible refine vp_in_nI ?_ ?_) <;> first | omega | decide))); (conv => whnf))
      | (refine And.intro (by first | with_reducible assumption | exact (show cL _ _ = _ from rfl) | decide) ?_; (conv => whnf))
      | ((with_reducible refine @And.intro (_ = _) _ ?_ ?_); (· rfl); (conv => whnf))
      | ((with_reducible refine @And.intro (@LE.le Nat _ _ _) _ ?_ ?_); (· (first | exact Nat.zero_le _ | exact Nat.le_of_ble_eq_true rfl | omega)); (conv => whnf))
      | ((with_reducible refine @And.intro (@LT.lt Nat _ _ _) _ ?_ ?_); (· omega); (conv => whnf))
      | ((with_reducible refine @And.intro (∃ _, _ = _) _ ?_ ?_); (· exact ⟨_, rfl⟩); (conv => whnf))
      | ((with_reducible refine @And.intro (_ ∨ _) _ ?_ ?_); (· (first | exact Or.inl rfl | exact Or.inr rfl | exact t_b01 _ | assumption)); (conv => whnf))
      | ((with_reducible refine @And.intro (¬ (_ = _)) _ ?_ ?_); (· first | assumption | (with_reducible assumption)); (conv => whnf))
      | (refine hX _ _ _ _ _ _ ?_; (conv => whnf); fail_if_success show False)
      | (rw [c_si]; (conv => whnf))
      | (refine ⟨_, rfl, ?_⟩; (conv => whnf))
      | (refine ⟨_, _, rfl, ?_⟩; (conv => whnf))
      | (refine ⟨_, _, _, rfl, ?_⟩; (conv => whnf))
      | (refine ⟨_, _, _, _, rfl, ?_⟩; (conv => whnf))
      | (refine And.intro (fun c => ?_) (fun c => ?_) <;> (first | (exact absurd c (by decide +kernel)) | (conv => whnf)))
      | fail)
    have hkw := h1.kw (Or.inl rfl)
    obtain ⟨eA6, e66, td6⟩ := h1.td h5 c_6 (by decide) hg.base.td
    have e56 : J 5 6 = nI (y + min n (200 - y)) := by
      rw [← cA_gy (I := J) (r := 5), eA]
      exact gy_gos _ (gnow (cG P I L)) ey _
    have fin := hQ.1 J (hkw.good hg t1.td td6) (by
      rw [hkw.G hg, eA, eA6, e56, e66, ← nI_add, Int32.sub_eq_add_neg, Int32.add_assoc, Int32.add_comm (nI (min n (200 - y))), ← Int32.add_assoc, ← Int32.sub_eq_add_neg, ← ey5]
      rfl) rfl
    have ev : gy (g_gos (gGK (cG P I L)) (min n (200 - y)) (gnow (cG P I L))) = J 5 6 := by
      rw [e56]
      exact gy_gos _ (gnow (cG P I L)) ey _
    rw [ev] at fin
    exact fin
  all_goals
    repeat' (first
      | ((with_reducible refine @And.intro (vp_in _ _) _ ?_ ?_); (· (first | with_reducible assumption | ((with_reducible refine t_vin ?_); decide) | ((with_reducible refine vp_in_nI ?_ ?_) <;> first | omega | decide) | (simp (disch := omega) only [xl_n, xl_m, nI_dec, nI_sb, nI_add, pk_mul]; (with_reducible refine vp_in_nI ?_ ?_) <;> first | omega | decide))); (conv => whnf))
      | (refine And.intro (by first | with_reducible assumption | exact (show cL _ _ = _ from rfl) | decide) ?_; (conv => whnf))
      | ((with_reducible refine @And.intro (_ = _) _ ?_ ?_); (· rfl); (conv => whnf))
      | ((with_reducible refine @And.intro (@LE.le Nat _ _ _) _ ?_ ?_); (· (first | exact Nat.zero_le _ | exact Nat.le_of_ble_eq_true rfl | omega)); (conv => whnf))
      | ((with_reducible refine @And.intro (@LT.lt Nat _ _ _) _ ?_ ?_); (· omega); (conv => whnf))
      | ((with_reducible refine @And.intro (∃ _, _ = _) _ ?_ ?_); (· exact ⟨_, rfl⟩); (conv => whnf))
      | ((with_reducible refine @And.intro (_ ∨ _) _ ?_ ?_); (· (first | exact Or.inl rfl | exact Or.inr rfl | exact t_b01 _ | assumption)); (conv => whnf))
      | ((with_reducible refine @And.intro (¬ (_ = _)) _ ?_ ?_); (· first | assumption | (with_reducible assumption)); (conv => whnf))
      | (refine hX _ _ _ _ _ _ ?_; (conv => whnf); fail_if_success show False)
      | (rw [c_si]; (conv => whnf))
      | (refine ⟨_, rfl, ?_⟩; (conv => whnf))
      | (refine ⟨_, _, rfl, ?_⟩; (conv => whnf))
      | (refine ⟨_, _, _, rfl, ?_⟩; (conv => whnf))
      | (refine ⟨_, _, _, _, rfl, ?_⟩; (conv => whnf))
      | (rw [e1]; (conv => whnf))
      | (refine ⟨false,rfl,?_⟩; (conv => whnf))
      | (refine And.intro (fun c => ?_) (fun c => ?_) <;> (first | (exact absurd c (by decide +kernel)) | (conv => whnf)))
      | fail)
    intro x hx
    exact c_ref1 hQ hg e1 hx n1_0
theorem ct_X1_years : xm_Ct cI yX1_years (ws_ yX1_years cX1_years 2 (some .int)) 165 1 6 S_X1_years := xm_enter (rt := 0) (init := false) (by decide +kernel) rfl (fun h => by cases h) (Or.inl ⟨rfl, rfl⟩) (oX1_years) body_X1_years
theorem cv_X1_years {own : String} {cc : ByteArray} {fr pc idx : Nat} (hdg : decode cc pc = .ok (.invokevirtual idx, 3)) (hl : xm_ml own idx yX1_years) (hfr : 165 < fr) : xm_CallOK cI own cc fr pc (pc + 3) 2 1 6 (xm_this 0 S_X1_years) := xm_callV 0 cI_good (ct_X1_years) hdg hl q1646 q1647 q116 q1648 rfl rfl (by decide +kernel) hfr (by decide)
/-- now is another one, and base becomes it -/
theorem c_set {P : cP} {Z : cX} {I J K : tI} {L : List lC} (hg : c_good P Z I L) (h1 : c_sc 5 I J) (t1 : c_td J 5) (h2 : c_sc 6 J K) (t2 : c_ts P Z K 6 L) (e2 : cA K 6 = cA J 5) : c_good P Z K L ∧ cG P K L = g_set (cG P I L) (cA J 5) := by
  obtain ⟨eA5, e56, td5⟩ := h2.td (P := P) c_6 c_5 (by decide) t1
  have hkw := (h1.kw (Or.inl rfl)).tr (h2.kw (Or.inr rfl))
  refine ⟨hkw.good hg td5 t2.td, ?_⟩
  rw [hkw.G hg, eA5, e2]
  have e : K 5 6 - K 6 6 = nI 0 := by
    have : K 6 6 = J 5 6 := by
      rw [← cA_gy (I := K) (r := 6), e2]
      rfl
    rw [e56, this, Int32.sub_self]
    rfl
  rw [e]
  rfl
abbrev bX1_dies_0 : List xE := [(.aload_n 0, 1, 0, 0, 0), (.iload_n 1, 2, 0, 0, 0), (.invokevirtual 217, 5, 0, 0, 9), (.aload_n 0, 6, 0, 0, 0), (.getfield 58, 9, 0, 5, 1), (.getfield 226, 12, 7, 0, 1), (.iload_n 1, 13, 0, 0, 0), (.iaload, 14, 0, 0, 0), (.iconst 1, 15, 0, 0, 0), (.if_icmp .eq 5, 18, 0, 20, 0), (.iconst (-1), 19, 0, 0, 0), (.ireturn, 20, 0, 0, 0)]
abbrev bX1_dies_20 : List xE := [(.aload_n 0, 21, 0, 0, 0), (.getfield 58, 24, 0, 5, 1), (.iload_n 1, 25, 0, 0, 0), (.invokevirtual 311, 28, 0, 1, 9), (.istore_n 2, 29, 0, 0, 0), (.aload_n 0, 30, 0, 0, 0), (.invokevirtual 101, 33, 0, 2, 9), (.iload_n 2, 34, 0, 0, 0), (.ireturn, 35, 0, 0, 0)]
abbrev kX1_dies : List (Nat × List xE) := [(0, bX1_dies_0), (20, bX1_dies_20)]
abbrev lX1_dies : List (Nat × Nat × Nat × xS) := [(2, 1, 6, xm_this 0 S_X1_needHand), (2, 0, 0, xm_this 7 S_X10_dies), (1, 0, 0, xm_this 0 S_X1_keepsBase)]
theorem oX1_dies_0  : xm_okb cI RX1 cX1_dies false 8 lX1_dies bX1_dies_0 0 := xo_0 dX1_dies_0 rfl trivial (xo_0 dX1_dies_1 rfl trivial (xo_c rfl (cv_X1_needHand dX1_dies_2 (Or.inl q1576) (by decide)) (xo_0 dX1_dies_5 rfl trivial (xo_1 dX1_dies_6 rfl (xm_fg_of (Or.inl q724) (by decide) rfl (by decide) rfl rfl (Or.inl rfl) rfl) (xo_1 dX1_dies_9 rfl (xm_fg_of (Or.inr ⟨_, q663⟩) (by decide) rfl (by decide) rfl rfl (Or.inl rfl) rfl) (xo_0 dX1_dies_12 rfl trivial (xo_0 dX1_dies_13 rfl trivial (xo_0 dX1_dies_14 rfl trivial (xo_0 dX1_dies_15 rfl rfl (xo_0 dX1_dies_18 rfl trivial (xo_0 dX1_dies_19 rfl trivial (xo_n))))))))))))
theorem oX1_dies_20  : xm_okb cI RX1 cX1_dies false 8 lX1_dies bX1_dies_20 20 := xo_0 dX1_dies_20 rfl trivial (xo_1 dX1_dies_21 rfl (xm_fg_of (Or.inl q724) (by decide) rfl (by decide) rfl rfl (Or.inl rfl) rfl) (xo_0 dX1_dies_24 rfl trivial (xo_c rfl (cv_X10_dies dX1_dies_25 (Or.inl q1708) (by decide)) (xo_0 dX1_dies_28 rfl trivial (xo_0 dX1_dies_29 rfl trivial (xo_c rfl (cv_X1_keepsBase dX1_dies_30 (Or.inl q707) (by decide)) (xo_0 dX1_dies_33 rfl trivial (xo_0 dX1_dies_34 rfl trivial (xo_n)))))))))
theorem oX1_dies  : ∀ q ∈ kX1_dies, xm_okb cI RX1 cX1_dies false 8 lX1_dies q.2 q.1 := by
  intro q hq
  simp only [List.mem_cons, List.not_mem_nil, or_false] at hq
  rcases hq with rfl | rfl
  · exact oX1_dies_0  
  · exact oX1_dies_20  
def S_X1_dies : xS := cU fun as P Z I Q QX => ∃ a L, as = [.ref 0, .int a] ∧ c_good P Z I L ∧ c_P P Z L (cG P I L) Q QX (q_dies (cG P I L) a)
theorem body_X1_dies : xm_Body 3 0 1 6 [] lX1_dies kX1_dies S_X1_dies := by
  intro X avs w Q QX hX0 hS
  have hG := xm_go [] hX0
  have hX := xm_go [] hX0
  clear hX0
  obtain ⟨P, Z, I, rfl, a, L, rfl, hg, hQ⟩ := hS
  have hok := hg.ok
  obtain ⟨hn, h9, hm, h8⟩ := id hok
  have h5 := c_5 (P := P)
  have ht := hg.now
  refine ⟨rfl, ?_⟩
  repeat' (first
    | ((with_reducible refine @And.intro (vp_in _ _) _ ?_ ?_); (· (first | with_reducible assumption | ((with_reducible refine t_vin ?_); decide) | ((with_reducible refine vp_in_nI ?_ ?_) <;> first | omega | decide) | (simp (disch := omega) only [xl_n, xl_m, nI_dec, nI_sb, nI_add, pk_mul]; (with_reducible refine vp_in_nI ?_ ?_) <;> first | omega | decide))); (conv => whnf))
    | (refine And.intro (by first | with_reducible assumption | exact (show cL _ _ = _ from rfl) | decide) ?_; (conv => whnf))
    | ((with_reducible refine @And.intro (_ = _) _ ?_ ?_); (· rfl); (conv => whnf))
    | ((with_reducible refine @And.intro (@LE.le Nat _ _ _) _ ?_ ?_); (· (first | exact Nat.zero_le _ | exact Nat.le_of_ble_eq_true rfl | omega)); (conv => whnf))
    | ((with_reducible refine @And.intro (@LT.lt Nat _ _ _) _ ?_ ?_); (· omega); (conv => whnf))
    | ((with_reducible refine @And.intro (∃ _, _ = _) _ ?_ ?_); (· exact ⟨_, rfl⟩); (conv => whnf))
    | ((with_reducible refine @And.intro (_ ∨ _) _ ?_ ?_); (· (first | exact Or.inl rfl | exact Or.inr rfl | exact t_b01 _ | assumption)); (conv => whnf))
    | ((with_reducible refine @And.intro (¬ (_ = _)) _ ?_ ?_); (· first | assumption | (with_reducible assumption)); (conv => whnf))
    | (refine hX _ _ _ _ _ _ ?_; (conv => whnf); fail_if_success show False)
    | (rw [c_si]; (conv => whnf))
    | (refine ⟨_, rfl, ?_⟩; (conv => whnf))
    | (refine ⟨_, _, rfl, ?_⟩; (conv => whnf))
    | (refine ⟨_, _, _, rfl, ?_⟩; (conv => whnf))
    | (refine ⟨_, _, _, _, rfl, ?_⟩; (conv => whnf))
    | (refine ⟨a,rfl,hok,?_⟩; (conv => whnf))
    | (rw [c_tl h5]; (conv => whnf))
    | (rw [c_t7 h5]; (conv => whnf))
    | (rw [c_tf h5 (by decide)]; (conv => whnf))
    | (rw [c_t0 h5]; (conv => whnf))
    | (rw [c_t1 h5]; (conv => whnf))
    | (rw [c_t2 h5]; (conv => whnf))
    | (rw [c_t3 h5]; (conv => whnf))
    | (rw [c_t4 h5]; (conv => whnf))
    | (rw [c_t5 h5]; (conv => whnf))
    | (refine And.intro ⟨_, c_tl h5⟩ ?_; (conv => whnf))
    | fail)
  refine ⟨fun e => ?_, fun e x hx => ?_⟩
  · obtain ⟨h, hh, rfl⟩ := t_in_of (by omega) e
    have f : g_isH (cG P I L) (nI h) = true := e
    have ek : (nI h).toNatClampNeg = h := nI_clamp (by omega)
    have hal := c_is_ald (L := L) ht.2.2.1 hh
    have hal : g_al (gGK (cG P I L)) (gnow (cG P I L)) h = decide (I (10 * 5) h = nI 1) := hal
    rw [q_dies, f, g_ck_t, ek, hal] at hQ
    (conv => whnf)
    repeat' (first
      | ((with_reducible refine @And.intro (vp_in _ _) _ ?_ ?_); (· (first | with_reducible assumption | ((with_reducible refine t_vin ?_); decide) | ((with_reducible refine vp_in_nI ?_ ?_) <;> first | omega | decide) | (simp (disch := omega) only [xl_n, xl_m, nI_dec, nI_sb, nI_add, pk_mul]; (with_reducible refine vp_in_nI ?_ ?_) <;> first | omega | decide))); (conv => whnf))
      | (refine And.intro (by first | with_reducible assumption | exact (show cL _ _ = _ from rfl) | decide) ?_; (conv => whnf))
      | ((with_reducible refine @And.intro (_ = _) _ ?_ ?_); (· rfl); (conv => whnf))
      | ((with_reducible refine @And.intro (@LE.le Nat _ _ _) _ ?_ ?_); (· (first | exact Nat.zero_le _ | exact Nat.le_of_ble_eq_true rfl | omega)); (conv => whnf))
      | ((with_reducible refine @And.intro (@LT.lt Nat _ _ _) _ ?_ ?_); (· omega); (conv => whnf))
      | ((with_reducible refine @And.intro (∃ _, _ = _) _ ?_ ?_); (· exact ⟨_, rfl⟩); (conv => whnf))
      | ((with_reducible refine @And.intro (_ ∨ _) _ ?_ ?_); (· (first | exact Or.inl rfl | exact Or.inr rfl | exact t_b01 _ | assumption)); (conv => whnf))
      | ((with_reducible refine @And.intro (¬ (_ = _)) _ ?_ ?_); (· first | assumption | (with_reducible assumption)); (conv => whnf))
      | (refine hX _ _ _ _ _ _ ?_; (conv => whnf); fail_if_success show False)
      | (rw [c_si]; (conv => whnf))
      | (refine ⟨_, rfl, ?_⟩; (conv => whnf))
      | (refine ⟨_, _, rfl, ?_⟩; (conv => whnf))
      | (refine ⟨_, _, _, rfl, ?_⟩; (conv => whnf))
      | (refine ⟨_, _, _, _, rfl, ?_⟩; (conv => whnf))
      | (refine ⟨5,h,L,rfl,ht,hh,?_⟩; (conv => whnf))
      | (rw [c_tl h5]; (conv => whnf))
      | (rw [c_t7 h5]; (conv => whnf))
      | (rw [c_tf h5 (by decide)]; (conv => whnf))
      | (rw [c_t0 h5]; (conv => whnf))
      | (rw [c_t1 h5]; (conv => whnf))
      | (rw [c_t2 h5]; (conv => whnf))
      | (rw [c_t3 h5]; (conv => whnf))
      | (rw [c_t4 h5]; (conv => whnf))
      | (rw [c_t5 h5]; (conv => whnf))
      | (refine And.intro ⟨_, c_tl h5⟩ ?_; (conv => whnf))
      | (refine And.intro (fun c => ?_) (fun c => ?_) <;> (first | (exact absurd c (by decide +kernel)) | (conv => whnf)))
      | fail)
    · have c1 : ¬ ¬ I (10 * 5) (nI h).toNatClampNeg = nI 1 := fun z => z c
      rw [ek, Classical.not_not] at c1
      rw [decide_eq_true c1, if_pos rfl] at hQ
      intro J h1 t1 e1
      (conv => whnf)
      repeat' (first
        | ((with_reducible refine @And.intro (vp_in _ _) _ ?_ ?_); (· (first | with_reducible assumption | ((with_reducible refine t_vin ?_); decide) | ((with_reducible refine vp_in_nI ?_ ?_) <;> first | omega | decide) | (simp (disch := omega) only [xl_n, xl_m, nI_dec, nI_sb, nI_add, pk_mul]; (with_reducible refine vp_in_nI ?_ ?_) <;> first | omega | decide))); (conv => whnf))
        | (refine And.intro (by first | with_reducible assumption | exact (show cL _ _ = _ from rfl) | decide) ?_; (conv => whnf))
        | ((with_reducible refine @And.intro (_ = _) _ ?_ ?_); (· rfl); (conv => whnf))
        | ((with_reducible refine @And.intro (@LE.le Nat _ _ _) _ ?_ ?_); (· (first | exact Nat.zero_le _ | exact Nat.le_of_ble_eq_true rfl | omega)); (conv => whnf))
        | ((with_reducible refine @And.intro (@LT.lt Nat _ _ _) _ ?_ ?_); (· omega); (conv => whnf))
        | ((with_reducible refine @And.intro (∃ _, _ = _) _ ?_ ?_); (· exact ⟨_, rfl⟩); (conv => whnf))
        | ((with_reducible refine @And.intro (_ ∨ _) _ ?_ ?_); (· (first | exact Or.inl rfl | exact Or.inr rfl | exact t_b01 _ | assumption)); (conv => whnf))
        | ((with_reducible refine @And.intro (¬ (_ = _)) _ ?_ ?_); (· first | assumption | (with_reducible assumption)); (conv => whnf))
        | (refine hX _ _ _ _ _ _ ?_; (conv => whnf); fail_if_success show False)
        | (rw [c_si]; (conv => whnf))
        | (refine ⟨_, rfl, ?_⟩; (conv => whnf))
        | (refine ⟨_, _, rfl, ?_⟩; (conv => whnf))
        | (refine ⟨_, _, _, rfl, ?_⟩; (conv => whnf))
        | (refine ⟨_, _, _, _, rfl, ?_⟩; (conv => whnf))
        | (refine ⟨L,rfl,t1,?_⟩; (conv => whnf))
        | (refine And.intro (fun c => ?_) (fun c => ?_) <;> (first | (exact absurd c (by decide +kernel)) | (conv => whnf)))
        | fail)
      intro K h2 t2 e2
      (conv => whnf)
      repeat' (first
        | ((with_reducible refine @And.intro (vp_in _ _) _ ?_ ?_); (· (first | with_reducible assumption | ((with_reducible refine t_vin ?_); decide) | ((with_reducible refine vp_in_nI ?_ ?_) <;> first | omega | decide) | (simp (disch := omega) only [xl_n, xl_m, nI_dec, nI_sb, nI_add, pk_mul]; (with_reducible refine vp_in_nI ?_ ?_) <;> first | omega | decide))); (conv => whnf))
        | (refine And.intro (by first | with_reducible assumption | exact (show cL _ _ = _ from rfl) | decide) ?_; (conv => whnf))
        | ((with_reducible refine @And.intro (_ = _) _ ?_ ?_); (· rfl); (conv => whnf))
        | ((with_reducible refine @And.intro (@LE.le Nat _ _ _) _ ?_ ?_); (· (first | exact Nat.zero_le _ | exact Nat.le_of_ble_eq_true rfl | omega)); (conv => whnf))
        | ((with_reducible refine @And.intro (@LT.lt Nat _ _ _) _ ?_ ?_); (· omega); (conv => whnf))
        | ((with_reducible refine @And.intro (∃ _, _ = _) _ ?_ ?_); (· exact ⟨_, rfl⟩); (conv => whnf))
        | ((with_reducible refine @And.intro (_ ∨ _) _ ?_ ?_); (· (first | exact Or.inl rfl | exact Or.inr rfl | exact t_b01 _ | assumption)); (conv => whnf))
        | ((with_reducible refine @And.intro (¬ (_ = _)) _ ?_ ?_); (· first | assumption | (with_reducible assumption)); (conv => whnf))
        | (refine hX _ _ _ _ _ _ ?_; (conv => whnf); fail_if_success show False)
        | (rw [c_si]; (conv => whnf))
        | (refine ⟨_, rfl, ?_⟩; (conv => whnf))
        | (refine ⟨_, _, rfl, ?_⟩; (conv => whnf))
        | (refine ⟨_, _, _, rfl, ?_⟩; (conv => whnf))
        | (refine ⟨_, _, _, _, rfl, ?_⟩; (conv => whnf))
        | (refine And.intro (fun c => ?_) (fun c => ?_) <;> (first | (exact absurd c (by decide +kernel)) | (conv => whnf)))
        | fail)
      obtain ⟨g1, g2⟩ := c_set hg h1 t1.td h2 t2 e2
      exact hQ.1 K g1 (by rw [g2, e1]; rfl) rfl
    · have c1 : ¬ I (10 * 5) (nI h).toNatClampNeg = nI 1 := c
      rw [ek] at c1
      rw [decide_eq_false c1, if_neg (by decide)] at hQ
      exact c_ask hQ hg c_sp.rf (by decide +kernel)
  · exact c_ref0 hQ hg e hx n1_0
theorem ct_X1_dies : xm_Ct cI yX1_dies (ws_ yX1_dies cX1_dies 3 (some .int)) 8 1 6 S_X1_dies := xm_enter (rt := 0) (init := false) (by decide +kernel) rfl (fun h => by cases h) (Or.inl ⟨rfl, rfl⟩) (oX1_dies) body_X1_dies
theorem cv_X1_dies {own : String} {cc : ByteArray} {fr pc idx : Nat} (hdg : decode cc pc = .ok (.invokevirtual idx, 3)) (hl : xm_ml own idx yX1_dies) (hfr : 8 < fr) : xm_CallOK cI own cc fr pc (pc + 3) 2 1 6 (xm_this 0 S_X1_dies) := xm_callV 0 cI_good (ct_X1_dies) hdg hl q1705 q1706 q116 q1707 rfl rfl (by decide +kernel) hfr (by decide)
abbrev bX1_string_0 : List xE := [(.aload_n 0, 1, 0, 0, 0), (.iload_n 1, 2, 0, 0, 0), (.invokevirtual 238, 5, 0, 0, 9), (.aload_n 0, 6, 0, 0, 0), (.iload_n 2, 7, 0, 0, 0), (.iconst 1, 8, 0, 0, 0), (.if_icmp .lt 13, 11, 0, 21, 0), (.iload_n 2, 12, 0, 0, 0), (.bipush 30, 14, 0, 0, 0), (.if_icmp .gt 7, 17, 0, 21, 0), (.iconst 1, 18, 0, 0, 0), (.goto 4, 21, 0, 22, 0)]
abbrev bX1_string_21 : List xE := [(.iconst 0, 22, 0, 0, 0)]
abbrev bX1_string_22 : List xE := [(.invokevirtual 160, 25, 0, 1, 9), (.aload_n 0, 26, 0, 0, 0), (.getfield 58, 29, 0, 5, 1), (.getfield 198, 32, 7, 3, 1), (.iload_n 1, 33, 0, 0, 0), (.bipush 30, 35, 0, 0, 0), (.aload_n 0, 36, 0, 0, 0), (.getfield 58, 39, 0, 5, 1), (.getfield 198, 42, 7, 3, 1), (.iload_n 1, 43, 0, 0, 0), (.iaload, 44, 0, 0, 0), (.iload_n 2, 45, 0, 0, 0), (.iadd, 46, 0, 0, 0), (.invokestatic 288, 49, 0, 2, 9), (.iastore, 50, 0, 0, 0), (.aload_n 0, 51, 0, 0, 0), (.invokevirtual 101, 54, 0, 3, 9), (.aload_n 0, 55, 0, 0, 0), (.getfield 58, 58, 0, 5, 1), (.getfield 198, 61, 7, 3, 1), (.iload_n 1, 62, 0, 0, 0), (.iaload, 63, 0, 0, 0), (.ireturn, 64, 0, 0, 0)]
abbrev kX1_string : List (Nat × List xE) := [(0, bX1_string_0), (21, bX1_string_21), (22, bX1_string_22)]
abbrev lX1_string : List (Nat × Nat × Nat × xS) := [(2, 1, 6, xm_this 0 S_X1_needPuppet), (2, 1, 6, xm_this 0 S_X1_need), (2, 0, 0, S_J12_min), (1, 0, 0, xm_this 0 S_X1_keepsBase)]
theorem oX1_string_0  : xm_okb cI RX1 cX1_string false 8 lX1_string bX1_string_0 0 := xo_0 dX1_string_0 rfl trivial (xo_0 dX1_string_1 rfl trivial (xo_c rfl (cv_X1_needPuppet dX1_string_2 (Or.inl q1607) (by decide)) (xo_0 dX1_string_5 rfl trivial (xo_0 dX1_string_6 rfl trivial (xo_0 dX1_string_7 rfl trivial (xo_0 dX1_string_8 rfl rfl (xo_0 dX1_string_11 rfl trivial (xo_0 dX1_string_12 rfl (xo_bipush (by decide +kernel)) (xo_0 dX1_string_14 rfl rfl (xo_0 dX1_string_17 rfl trivial (xo_0 dX1_string_18 rfl rfl (xo_n))))))))))))
theorem oX1_string_21  : xm_okb cI RX1 cX1_string false 8 lX1_string bX1_string_21 21 := xo_0 dX1_string_21 rfl trivial (xo_n)
theorem oX1_string_22  : xm_okb cI RX1 cX1_string false 8 lX1_string bX1_string_22 22 := xo_c rfl (cv_X1_need dX1_string_22 (Or.inl q1030) (by decide)) (xo_0 dX1_string_25 rfl trivial (xo_1 dX1_string_26 rfl (xm_fg_of (Or.inl q724) (by decide) rfl (by decide) rfl rfl (Or.inl rfl) rfl) (xo_1 dX1_string_29 rfl (xm_fg_of (Or.inr ⟨_, q669⟩) (by decide) rfl (by decide) rfl rfl (Or.inl rfl) rfl) (xo_0 dX1_string_32 rfl trivial (xo_0 dX1_string_33 rfl (xo_bipush (by decide +kernel)) (xo_0 dX1_string_35 rfl trivial (xo_1 dX1_string_36 rfl (xm_fg_of (Or.inl q724) (by decide) rfl (by decide) rfl rfl (Or.inl rfl) rfl) (xo_1 dX1_string_39 rfl (xm_fg_of (Or.inr ⟨_, q669⟩) (by decide) rfl (by decide) rfl rfl (Or.inl rfl) rfl) (xo_0 dX1_string_42 rfl trivial (xo_0 dX1_string_43 rfl trivial (xo_0 dX1_string_44 rfl trivial (xo_0 dX1_string_45 rfl trivial (xo_c rfl (xc_min dX1_string_46 q1652 (by decide)) (xo_0 dX1_string_49 rfl trivial (xo_0 dX1_string_50 rfl trivial (xo_c rfl (cv_X1_keepsBase dX1_string_51 (Or.inl q707) (by decide)) (xo_0 dX1_string_54 rfl trivial (xo_1 dX1_string_55 rfl (xm_fg_of (Or.inl q724) (by decide) rfl (by decide) rfl rfl (Or.inl rfl) rfl) (xo_1 dX1_string_58 rfl (xm_fg_of (Or.inr ⟨_, q669⟩) (by decide) rfl (by decide) rfl rfl (Or.inl rfl) rfl) (xo_0 dX1_string_61 rfl trivial (xo_0 dX1_string_62 rfl trivial (xo_0 dX1_string_63 rfl trivial (xo_n)))))))))))))))))))))))
theorem oX1_string  : ∀ q ∈ kX1_string, xm_okb cI RX1 cX1_string false 8 lX1_string q.2 q.1 := by
  intro q hq
  simp only [List.mem_cons, List.not_mem_nil, or_false] at hq
  rcases hq with rfl | rfl | rfl
  · exact oX1_string_0  
  · exact oX1_string_21  
  · exact oX1_string_22  
def S_X1_string : xS := cU fun as P Z I Q QX => ∃ a b L, as = [.ref 0, .int a, .int b] ∧ c_good P Z I L ∧ c_P P Z L (cG P I L) Q QX (q_string (cG P I L) a b)
theorem body_X1_string : xm_Body 3 0 2 12 [] lX1_string kX1_string S_X1_string := by
  intro X avs w Q QX hX0 hS
  have hG := xm_go [] hX0
  have hX := xm_go [] hX0
  clear hX0
  obtain ⟨P, Z, I, rfl, a, b, L, rfl, hg, hQ⟩ := hS
  have hok := hg.ok
  obtain ⟨hn, h9, hm, h8⟩ := id hok
  have h5 := c_5 (P := P)
  have ht := hg.now
  refine ⟨rfl, ?_⟩
  repeat' (first
    | ((with_reducible refine @And.intro (vp_in _ _) _ ?_ ?_); (· (first | with_reducible assumption | ((with_reducible refine t_vin ?_); decide) | ((with_reducible refine vp_in_nI ?_ ?_) <;> first | omega | decide) | (simp (disch := omega) only [xl_n, xl_m, nI_dec, nI_sb, nI_add, pk_mul]; (with_reducible refine vp_in_nI ?_ ?_) <;> first | omega | decide))); (conv => whnf))
    | (refine And.intro (by first | with_reducible assumption | exact (show cL _ _ = _ from rfl) | decide) ?_; (conv => whnf))
    | ((with_reducible refine @And.intro (_ = _) _ ?_ ?_); (· rfl); (conv => whnf))
    | ((with_reducible refine @And.intro (@LE.le Nat _ _ _) _ ?_ ?_); (· (first | exact Nat.zero_le _ | exact Nat.le_of_ble_eq_true rfl | omega)); (conv => whnf))
    | ((with_reducible refine @And.intro (@LT.lt Nat _ _ _) _ ?_ ?_); (· omega); (conv => whnf))
    | ((with_reducible refine @And.intro (∃ _, _ = _) _ ?_ ?_); (· exact ⟨_, rfl⟩); (conv => whnf))
    | ((with_reducible refine @And.intro (_ ∨ _) _ ?_ ?_); (· (first | exact Or.inl rfl | exact Or.inr rfl | exact t_b01 _ | assumption)); (conv => whnf))
    | ((with_reducible refine @And.intro (¬ (_ = _)) _ ?_ ?_); (· first | assumption | (with_reducible assumption)); (conv => whnf))
    | (refine hX _ _ _ _ _ _ ?_; (conv => whnf); fail_if_success show False)
    | (rw [c_si]; (conv => whnf))
    | (refine ⟨_, rfl, ?_⟩; (conv => whnf))
    | (refine ⟨_, _, rfl, ?_⟩; (conv => whnf))
    | (refine ⟨_, _, _, rfl, ?_⟩; (conv => whnf))
    | (refine ⟨_, _, _, _, rfl, ?_⟩; (conv => whnf))
    | (refine ⟨a,rfl,hok,?_⟩; (conv => whnf))
    | (rw [c_tl h5]; (conv => whnf))
    | (rw [c_t7 h5]; (conv => whnf))
    | (rw [c_tf h5 (by decide)]; (conv => whnf))
    | (rw [c_t0 h5]; (conv => whnf))
    | (rw [c_t1 h5]; (conv => whnf))
    | (rw [c_t2 h5]; (conv => whnf))
    | (rw [c_t3 h5]; (conv => whnf))
    | (rw [c_t4 h5]; (conv => whnf))
    | (rw [c_t5 h5]; (conv => whnf))
    | (refine And.intro ⟨_, c_tl h5⟩ ?_; (conv => whnf))
    | fail)
  refine ⟨fun e => ?_, fun e x hx => ?_⟩
  · obtain ⟨p, hp, rfl⟩ := t_in_of (by omega) e
    have f : g_isP (cG P I L) (nI p) = true := e
    have ek : (nI p).toNatClampNeg = p := nI_clamp (by omega)
    rw [q_string, f, g_ck_t, ek] at hQ
    (conv => whnf)
    rcases c_rc b 1 30 (A := Int32.ofInt 1) (B := Int32.ofInt 30) (by decide +kernel) (by decide +kernel) (by omega) (by omega) with ⟨n, hn1, hn6, rfl, e1⟩ | ⟨e1, h1⟩ | ⟨e1, h1, h2⟩
    · have d1 : ¬ nI n < Int32.ofInt 1 := fun q => by
        have : nI 1 ≤ nI n := (nI_leI (by omega) (by omega)).mpr hn1
        exact absurd this (Int32.not_le.mpr q)
      have d2 : ¬ Int32.ofInt 30 < nI n := fun q => by
        have : nI n ≤ nI 30 := (nI_leI (by omega) (by omega)).mpr hn6
        exact absurd this (Int32.not_le.mpr q)
      rw [e1, g_ck_t] at hQ
      have hsc : ∀ v, c_sc 5 I (xm_u2 I 53 p v) := fun v => c_sc.u (by omega)
      have eA : ∀ v, cA (xm_u2 I 53 p v) 5 = g_str (cA I 5) p v := fun v => cA_s (r := 5) (by omega) (by omega)
      have t1 : ∀ v, c_ts P Z (xm_u2 I 53 p v) 5 L := fun v => ht.up (hsc v) (funext fun i => xm_u2_ne (by omega) i) (xm_u2_ne (by omega) _) (by rw [eA]; exact ht.2.2.2.1)
      repeat' (first
        | ((with_reducible refine @And.intro (vp_in _ _) _ ?_ ?_); (· (first | with_reducible assumption | ((with_reducible refine t_vin ?_); decide) | ((with_reducible refine vp_in_nI ?_ ?_) <;> first | omega | decide) | (simp (disch := omega) only [xl_n, xl_m, nI_dec, nI_sb, nI_add, pk_mul]; (with_reducible refine vp_in_nI ?_ ?_) <;> first | omega | decide))); (conv => whnf))
        | (refine And.intro (by first | with_reducible assumption | exact (show cL _ _ = _ from rfl) | decide) ?_; (conv => whnf))
        | ((with_reducible refine @And.intro (_ = _) _ ?_ ?_); (· rfl); (conv => whnf))
        | ((with_reducible refine @And.intro (@LE.le Nat _ _ _) _ ?_ ?_); (· (first | exact Nat.zero_le _ | exact Nat.le_of_ble_eq_true rfl | omega)); (conv => whnf))
        | ((with_reducible refine @And.intro (@LT.lt Nat _ _ _) _ ?_ ?_); (· omega); (conv => whnf))
        | ((with_reducible refine @And.intro (∃ _, _ = _) _ ?_ ?_); (· exact ⟨_, rfl⟩); (conv => whnf))
        | ((with_reducible refine @And.intro (_ ∨ _) _ ?_ ?_); (· (first | exact Or.inl rfl | exact Or.inr rfl | exact t_b01 _ | assumption)); (conv => whnf))
        | ((with_reducible refine @And.intro (¬ (_ = _)) _ ?_ ?_); (· first | assumption | (with_reducible assumption)); (conv => whnf))
        | (refine hX _ _ _ _ _ _ ?_; (conv => whnf); fail_if_success show False)
        | (rw [c_si]; simp (disch := omega) only [xl_n, xl_m, nI_dec, nI_sb, xl_0, xl_1, cW_i, Nat.add_zero, Nat.reduceAdd, Nat.reduceMul, t_bn0, t_bn1, Classical.not_not, t_lt, nI_add, nI_1, pk_mul, nI_clamp, c_si, nI_eq, nI_leI, nM_ne, nM_ne, xm_u2_ne, xm_u2_at, reduceIte, Nat.reduceEqDiff]; (conv => whnf))
        | (refine ⟨_, rfl, ?_⟩; (conv => whnf))
        | (refine ⟨_, _, rfl, ?_⟩; (conv => whnf))
        | (refine ⟨_, _, _, rfl, ?_⟩; (conv => whnf))
        | (refine ⟨_, _, _, _, rfl, ?_⟩; (conv => whnf))
        | (refine ⟨true,rfl,?_⟩; (conv => whnf))
        | (refine ⟨false,rfl,?_⟩; (conv => whnf))
        | (refine ⟨L,rfl,t1 _,?_⟩; (conv => whnf))
        | (rw [c_tl h5]; (conv => whnf))
        | (rw [c_t7 h5]; (conv => whnf))
        | (rw [c_tf h5 (by decide)]; (conv => whnf))
        | (rw [c_t0 h5]; (conv => whnf))
        | (rw [c_t1 h5]; (conv => whnf))
        | (rw [c_t2 h5]; (conv => whnf))
        | (rw [c_t3 h5]; (conv => whnf))
        | (rw [c_t4 h5]; (conv => whnf))
        | (rw [c_t5 h5]; (conv => whnf))
        | (refine And.intro ⟨_, c_tl h5⟩ ?_; (conv => whnf))
        | (refine And.intro (fun c => ?_) (fun c => ?_) <;> (first | (exact absurd c (by decide +kernel)) | (exact absurd c (by assumption)) | (exact False.elim (c (by assumption))) | (conv => whnf)))
        | fail)
      refine ⟨L, trivial, t1 _, ?_⟩
      intro K h2 t2 e2
      (conv => whnf)
      repeat' (first
        | ((with_reducible refine @And.intro (vp_in _ _) _ ?_ ?_); (· (first | with_reducible assumption | ((with_reducible refine t_vin ?_); decide) | ((with_reducible refine vp_in_nI ?_ ?_) <;> first | omega | decide) | (simp (disch := omega) only [xl_n, xl_m, nI_dec, nI_sb, nI_add, pk_mul]; (with_reducible refine vp_in_nI ?_ ?_) <;> first | omega | decide))); (conv => whnf))
        | (refine And.intro (by first | with_reducible assumption | exact (show cL _ _ = _ from rfl) | decide) ?_; (conv => whnf))
        | ((with_reducible refine @And.intro (_ = _) _ ?_ ?_); (· rfl); (conv => whnf))
        | ((with_reducible refine @And.intro (@LE.le Nat _ _ _) _ ?_ ?_); (· (first | exact Nat.zero_le _ | exact Nat.le_of_ble_eq_true rfl | omega)); (conv => whnf))
        | ((with_reducible refine @And.intro (@LT.lt Nat _ _ _) _ ?_ ?_); (· omega); (conv => whnf))
        | ((with_reducible refine @And.intro (∃ _, _ = _) _ ?_ ?_); (· exact ⟨_, rfl⟩); (conv => whnf))
        | ((with_reducible refine @And.intro (_ ∨ _) _ ?_ ?_); (· (first | exact Or.inl rfl | exact Or.inr rfl | exact t_b01 _ | assumption)); (conv => whnf))
        | ((with_reducible refine @And.intro (¬ (_ = _)) _ ?_ ?_); (· first | assumption | (with_reducible assumption)); (conv => whnf))
        | (refine hX _ _ _ _ _ _ ?_; (conv => whnf); fail_if_success show False)
        | (rw [c_si]; (conv => whnf))
        | (refine ⟨_, rfl, ?_⟩; (conv => whnf))
        | (refine ⟨_, _, rfl, ?_⟩; (conv => whnf))
        | (refine ⟨_, _, _, rfl, ?_⟩; (conv => whnf))
        | (refine ⟨_, _, _, _, rfl, ?_⟩; (conv => whnf))
        | (rw [c_tl h5]; (conv => whnf))
        | (rw [c_t7 h5]; (conv => whnf))
        | (rw [c_tf h5 (by decide)]; (conv => whnf))
        | (rw [c_t0 h5]; (conv => whnf))
        | (rw [c_t1 h5]; (conv => whnf))
        | (rw [c_t2 h5]; (conv => whnf))
        | (rw [c_t3 h5]; (conv => whnf))
        | (rw [c_t4 h5]; (conv => whnf))
        | (rw [c_t5 h5]; (conv => whnf))
        | (refine And.intro ⟨_, c_tl h5⟩ ?_; (conv => whnf))
        | (refine And.intro (fun c => ?_) (fun c => ?_) <;> (first | (exact absurd c (by decide +kernel)) | (conv => whnf)))
        | fail)
      obtain ⟨g1, g2⟩ := c_set hg (hsc _) (t1 _).td h2 t2 e2
      have fin := hQ.1 K g1 (by
        rw [g2, eA, ← cA_gs (I := I) (r := 5) (p := p) (by omega)]
        rfl) rfl
      refine t_q fin ?_
      show K 53 (nI p).toNatClampNeg = t_less (nI 30) (gs (cA I 5) p + nI n)
      rw [ek, h2 53 (by decide) (by decide) (by decide), xm_u2_at, if_pos rfl, cA_gs (by omega)]
    all_goals
      repeat' (first
        | ((with_reducible refine @And.intro (vp_in _ _) _ ?_ ?_); (· (first | with_reducible assumption | ((with_reducible refine t_vin ?_); decide) | ((with_reducible refine vp_in_nI ?_ ?_) <;> first | omega | decide) | (simp (disch := omega) only [xl_n, xl_m, nI_dec, nI_sb, nI_add, pk_mul]; (with_reducible refine vp_in_nI ?_ ?_) <;> first | omega | decide))); (conv => whnf))
        | (refine And.intro (by first | with_reducible assumption | exact (show cL _ _ = _ from rfl) | decide) ?_; (conv => whnf))
        | ((with_reducible refine @And.intro (_ = _) _ ?_ ?_); (· rfl); (conv => whnf))
        | ((with_reducible refine @And.intro (@LE.le Nat _ _ _) _ ?_ ?_); (· (first | exact Nat.zero_le _ | exact Nat.le_of_ble_eq_true rfl | omega)); (conv => whnf))
        | ((with_reducible refine @And.intro (@LT.lt Nat _ _ _) _ ?_ ?_); (· omega); (conv => whnf))
        | ((with_reducible refine @And.intro (∃ _, _ = _) _ ?_ ?_); (· exact ⟨_, rfl⟩); (conv => whnf))
        | ((with_reducible refine @And.intro (_ ∨ _) _ ?_ ?_); (· (first | exact Or.inl rfl | exact Or.inr rfl | exact t_b01 _ | assumption)); (conv => whnf))
        | ((with_reducible refine @And.intro (¬ (_ = _)) _ ?_ ?_); (· first | assumption | (with_reducible assumption)); (conv => whnf))
        | (refine hX _ _ _ _ _ _ ?_; (conv => whnf); fail_if_success show False)
        | (rw [c_si]; (conv => whnf))
        | (refine ⟨_, rfl, ?_⟩; (conv => whnf))
        | (refine ⟨_, _, rfl, ?_⟩; (conv => whnf))
        | (refine ⟨_, _, _, rfl, ?_⟩; (conv => whnf))
        | (refine ⟨_, _, _, _, rfl, ?_⟩; (conv => whnf))
        | (refine ⟨true,rfl,?_⟩; (conv => whnf))
        | (refine ⟨false,rfl,?_⟩; (conv => whnf))
        | (refine And.intro (fun c => ?_) (fun c => ?_) <;> (first | (exact absurd c (by decide +kernel)) | (exact absurd c (by assumption)) | (exact False.elim (c (by assumption))) | (conv => whnf)))
        | fail)
      intro x hx
      exact c_ref1 hQ hg e1 hx n2_0
  · exact c_ref0 hQ hg e hx n1_0
theorem ct_X1_string : xm_Ct cI yX1_string (ws_ yX1_string cX1_string 3 (some .int)) 8 2 12 S_X1_string := xm_enter (rt := 0) (init := false) (by decide +kernel) rfl (fun h => by cases h) (Or.inl ⟨rfl, rfl⟩) (oX1_string) body_X1_string
theorem cv_X1_string {own : String} {cc : ByteArray} {fr pc idx : Nat} (hdg : decode cc pc = .ok (.invokevirtual idx, 3)) (hl : xm_ml own idx yX1_string) (hfr : 8 < fr) : xm_CallOK cI own cc fr pc (pc + 3) 3 2 12 (xm_this 0 S_X1_string) := xm_callV 0 cI_good (ct_X1_string) hdg hl q1713 q1714 q116 q1715 rfl rfl (by decide +kernel) hfr (by decide)
