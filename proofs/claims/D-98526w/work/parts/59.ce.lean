/-! ===== the reference: casts asked for ===== -/
set_option maxRecDepth 100000
theorem t_act_ok {I : tI} (hg : t_good I) {a : Nat} (ha : a < t_a I) : (∀ q, q ∈ g_act (tG I) a → q.1 < t_p I) ∧ (g_act (tG I) a).length ≤ 6 := by
  obtain ⟨hm, hm6, -⟩ := hg.2.2.2.2.2.2.1 a ha
  refine ⟨fun q hq => ?_, ?_⟩
  · obtain ⟨i, hi, rfl⟩ := g_actN_in hq
    exact (tG_pup' hg ha hi).1
  · show (g_actN (tG I) a (t_am I a)).length ≤ 6
    rw [g_actN_n]
    exact hm6
def g_casts (G : gG) (T : gT) (al : Int32) (a : Nat) : List (List Int32) := g_castsP G T al (g_act G a)
def g_nowc (G : gG) (a : Nat) : List (List Int32) := g_casts G (gnow G) (g_alive (gGK G) (gnow G)) a
def g_is (L : List (List Int32)) : Bool := !L.isEmpty
theorem g_is_t {L : List (List Int32)} : g_is L = true ↔ ¬ L = [] := by cases L <;> simp [g_is]
theorem g_is_f {L : List (List Int32)} : g_is L = false ↔ L = [] := by cases L <;> simp [g_is]
theorem g_ans_le {L : List (List Int32)} : (g_ans true L ≤ 0) = (g_is L = false) := by
  rw [g_is_f, g_ans_t]
  by_cases e : L = []
  · rw [if_pos e]
    exact propext ⟨fun _ => e, fun _ => by decide +kernel⟩
  · rw [if_neg e]
    exact propext ⟨fun h => absurd h (by decide +kernel), fun h => absurd h e⟩
theorem g_ans_eq {L : List (List Int32)} : (g_ans true L = 0) = (g_is L = false) := by
  rw [g_is_f, g_ans_t]
  by_cases e : L = []
  · rw [if_pos e]
    exact propext ⟨fun _ => e, fun _ => by decide +kernel⟩
  · rw [if_neg e]
    exact propext ⟨fun h => absurd h (by decide +kernel), fun h => absurd h e⟩
theorem t_cg.A {I J : tI} {r : Nat} (h : t_cg I J) (hr : t_row r) : tA J r = tA I r := tA_eq fun j _ => by
  have := t_row_in hr
  rw [h.1 r (by omega) (by omega) (by omega)]
theorem t_cf.A {I J : tI} {r : Nat} (h : t_cf I J) (hr : t_row r) : tA J r = tA I r := tA_eq fun j _ => by
  have := t_row_in hr
  rw [h.1 r (by omega) (by omega) (by omega) (by omega)]
theorem t_cq_0 {I : tI} : t_cq I [] := fun i p l h => by simp at h
abbrev bX11_castsOf_0 : List xE := [(.aload_n 0, 1, 0, 0, 0), (.iload_n 1, 2, 0, 0, 0), (.iconst 0, 3, 0, 0, 0), (.invokevirtual 408, 6, 0, 0, 9), (.aload_n 0, 7, 0, 0, 0), (.aload_n 0, 8, 0, 0, 0), (.getfield 91, 11, 8, 36, 1), (.aload_n 0, 12, 0, 0, 0), (.aload_n 0, 13, 0, 0, 0), (.getfield 91, 16, 8, 36, 1), (.invokevirtual 324, 19, 0, 1, 9), (.iconst 0, 20, 0, 0, 0), (.invokevirtual 411, 23, 0, 2, 9), (.ireturn, 24, 0, 0, 0)]
abbrev kX11_castsOf : List (Nat × List xE) := [(0, bX11_castsOf_0)]
abbrev lX11_castsOf : List (Nat × Nat × Nat × xS) := [(3, 0, 0, xm_this 8 S_X11_sets), (2, 0, 0, xm_this 8 S_X11_aliveOf), (4, 0, 0, xm_this 8 S_X11_castsNow)]
theorem oX11_castsOf_0 {Iv : xI} (hI : xm_good Iv)  : xm_okb Iv RX11 cX11_castsOf false 24 lX11_castsOf bX11_castsOf_0 0 := xo_0 dX11_castsOf_0 rfl trivial (xo_0 dX11_castsOf_1 rfl trivial (xo_0 dX11_castsOf_2 rfl trivial (xo_c rfl (cv_X11_sets hI dX11_castsOf_3 (Or.inl q2423) (by decide)) (xo_0 dX11_castsOf_6 rfl trivial (xo_0 dX11_castsOf_7 rfl trivial (xo_1 dX11_castsOf_8 rfl (xm_fg_of (Or.inl q1991) (by decide) rfl (by decide) rfl rfl (Or.inl rfl) rfl) (xo_0 dX11_castsOf_11 rfl trivial (xo_0 dX11_castsOf_12 rfl trivial (xo_1 dX11_castsOf_13 rfl (xm_fg_of (Or.inl q1991) (by decide) rfl (by decide) rfl rfl (Or.inl rfl) rfl) (xo_c rfl (cv_X11_aliveOf hI dX11_castsOf_16 (Or.inl q2288) (by decide)) (xo_0 dX11_castsOf_19 rfl trivial (xo_c rfl (cv_X11_castsNow hI dX11_castsOf_20 (Or.inl q2427) (by decide)) (xo_0 dX11_castsOf_23 rfl trivial (xo_n))))))))))))))
theorem oX11_castsOf {Iv : xI} (hI : xm_good Iv)  : ∀ q ∈ kX11_castsOf, xm_okb Iv RX11 cX11_castsOf false 24 lX11_castsOf q.2 q.1 := by
  intro q hq
  simp only [List.mem_cons, List.not_mem_nil, or_false] at hq
  subst hq
  exact oX11_castsOf_0 hI  
def S_X11_castsOf : xS := tU fun as I Q => ∃ a, as = [.ref 0, .int (nI a)] ∧ t_good I ∧ g_need (tG I) ∧ a < t_a I ∧ ∀ J, t_sp I J → J 0 0 = I 0 0 → t_cp J (g_act (tG I) a) → t_aft J (gmany (tG I) a) (t_h I) false (g_nowc (tG I) a) → Q (some (.int (g_many (g_nowc (tG I) a)))) J
theorem body_X11_castsOf : xm_Body 2 0 0 0 [] lX11_castsOf kX11_castsOf S_X11_castsOf := by
  intro X avs w Q QX hX0 hS
  have hG := xm_go [] hX0
  have hX := xm_go [] hX0
  clear hX0
  obtain ⟨I, rfl, a, rfl, hg, hnd, ha, hQ⟩ := hS
  obtain ⟨hP, h6⟩ := t_act_ok hg ha
  refine ⟨rfl, ?_⟩
  repeat' (first
    | ((with_reducible refine @And.intro (vp_in _ _) _ ?_ ?_); (· (first | with_reducible assumption | ((with_reducible refine t_vin ?_); decide) | ((with_reducible refine vp_in_nI ?_ ?_) <;> first | omega | decide) | (simp (disch := omega) only [xl_n, xl_m, nI_dec, nI_sb, nI_add, pk_mul]; (with_reducible refine vp_in_nI ?_ ?_) <;> first | omega | decide))); (conv => whnf))
    | (refine And.intro (by first | with_reducible assumption | exact (show tL _ = _ from rfl) | decide) ?_; (conv => whnf))
    | ((with_reducible refine @And.intro (_ = _) _ ?_ ?_); (· rfl); (conv => whnf))
    | ((with_reducible refine @And.intro (@LE.le Nat _ _ _) _ ?_ ?_); (· (first | exact Nat.zero_le _ | exact Nat.le_of_ble_eq_true rfl | omega)); (conv => whnf))
    | ((with_reducible refine @And.intro (@LT.lt Nat _ _ _) _ ?_ ?_); (· omega); (conv => whnf))
    | ((with_reducible refine @And.intro (∃ _, _ = _) _ ?_ ?_); (· exact ⟨_, rfl⟩); (conv => whnf))
    | ((with_reducible refine @And.intro (_ ∨ _) _ ?_ ?_); (· (first | exact Or.inl rfl | exact Or.inr rfl | exact t_b01 _ | assumption)); (conv => whnf))
    | ((with_reducible refine @And.intro (¬ (_ = _)) _ ?_ ?_); (· first | assumption | (with_reducible assumption)); (conv => whnf))
    | (refine hX _ _ _ _ _ _ ?_; (conv => whnf); fail_if_success show False)
    | (rw [t_si]; (conv => whnf))
    | (refine ⟨_, rfl, ?_⟩; (conv => whnf))
    | (refine ⟨_, _, rfl, ?_⟩; (conv => whnf))
    | (refine ⟨_, _, _, rfl, ?_⟩; (conv => whnf))
    | (refine ⟨_, _, _, _, rfl, ?_⟩; (conv => whnf))
    | (refine And.intro (fun c => ?_) (fun c => ?_) <;> (first | (exact absurd c (by decide +kernel)) | (conv => whnf)))
    | fail)
  refine ⟨a, [], rfl, hg, ha, Nat.zero_le _, t_cq_0, fun J hJ hcp => ?_⟩
  rw [List.nil_append] at hcp
  have hgJ := hJ.sp.good hg
  have hokJ := hgJ.1
  have eG := hJ.sp.G hg
  (conv => whnf)
  repeat' (first
    | ((with_reducible refine @And.intro (vp_in _ _) _ ?_ ?_); (· (first | with_reducible assumption | ((with_reducible refine t_vin ?_); decide) | ((with_reducible refine vp_in_nI ?_ ?_) <;> first | omega | decide) | (simp (disch := omega) only [xl_n, xl_m, nI_dec, nI_sb, nI_add, pk_mul]; (with_reducible refine vp_in_nI ?_ ?_) <;> first | omega | decide))); (conv => whnf))
    | (refine And.intro (by first | with_reducible assumption | exact (show tL _ = _ from rfl) | decide) ?_; (conv => whnf))
    | ((with_reducible refine @And.intro (_ = _) _ ?_ ?_); (· rfl); (conv => whnf))
    | ((with_reducible refine @And.intro (@LE.le Nat _ _ _) _ ?_ ?_); (· (first | exact Nat.zero_le _ | exact Nat.le_of_ble_eq_true rfl | omega)); (conv => whnf))
    | ((with_reducible refine @And.intro (@LT.lt Nat _ _ _) _ ?_ ?_); (· omega); (conv => whnf))
    | ((with_reducible refine @And.intro (∃ _, _ = _) _ ?_ ?_); (· exact ⟨_, rfl⟩); (conv => whnf))
    | ((with_reducible refine @And.intro (_ ∨ _) _ ?_ ?_); (· (first | exact Or.inl rfl | exact Or.inr rfl | exact t_b01 _ | assumption)); (conv => whnf))
    | ((with_reducible refine @And.intro (¬ (_ = _)) _ ?_ ?_); (· first | assumption | (with_reducible assumption)); (conv => whnf))
    | (refine hX _ _ _ _ _ _ ?_; (conv => whnf); fail_if_success show False)
    | (rw [t_si]; (conv => whnf))
    | (refine ⟨_, rfl, ?_⟩; (conv => whnf))
    | (refine ⟨_, _, rfl, ?_⟩; (conv => whnf))
    | (refine ⟨_, _, _, rfl, ?_⟩; (conv => whnf))
    | (refine ⟨_, _, _, _, rfl, ?_⟩; (conv => whnf))
    | (refine And.intro (fun c => ?_) (fun c => ?_) <;> (first | (exact absurd c (by decide +kernel)) | (conv => whnf)))
    | fail)
  refine ⟨36, g_act (tG I) a, g_alive (tK J) (tA J 36), false, rfl, rfl, hgJ, by rw [eG]; exact hnd, (by omega), ?_, hcp, fun _ => h6, fun M hM hA => ?_⟩
  · rw [t_p_eq (hJ.1 12 (by decide) (by decide) (by decide))]
    exact hP
  · have eh : t_h J = t_h I := t_h_eq (hJ.1 12 (by decide) (by decide) (by decide))
    have eK : tK J = tK I := hJ.sp.same.K hg
    rw [eG, eh, eK, hJ.A (show t_row 36 from rfl)] at hA
    rw [eG, eK, hJ.A (show t_row 36 from rfl)]
    (conv => whnf)
    repeat' (first
      | ((with_reducible refine @And.intro (vp_in _ _) _ ?_ ?_); (· (first | with_reducible assumption | ((with_reducible refine t_vin ?_); decide) | ((with_reducible refine vp_in_nI ?_ ?_) <;> first | omega | decide) | (simp (disch := omega) only [xl_n, xl_m, nI_dec, nI_sb, nI_add, pk_mul]; (with_reducible refine vp_in_nI ?_ ?_) <;> first | omega | decide))); (conv => whnf))
      | (refine And.intro (by first | with_reducible assumption | exact (show tL _ = _ from rfl) | decide) ?_; (conv => whnf))
      | ((with_reducible refine @And.intro (_ = _) _ ?_ ?_); (· rfl); (conv => whnf))
      | ((with_reducible refine @And.intro (@LE.le Nat _ _ _) _ ?_ ?_); (· (first | exact Nat.zero_le _ | exact Nat.le_of_ble_eq_true rfl | omega)); (conv => whnf))
      | ((with_reducible refine @And.intro (@LT.lt Nat _ _ _) _ ?_ ?_); (· omega); (conv => whnf))
      | ((with_reducible refine @And.intro (∃ _, _ = _) _ ?_ ?_); (· exact ⟨_, rfl⟩); (conv => whnf))
      | ((with_reducible refine @And.intro (_ ∨ _) _ ?_ ?_); (· (first | exact Or.inl rfl | exact Or.inr rfl | exact t_b01 _ | assumption)); (conv => whnf))
      | ((with_reducible refine @And.intro (¬ (_ = _)) _ ?_ ?_); (· first | assumption | (with_reducible assumption)); (conv => whnf))
      | (refine hX _ _ _ _ _ _ ?_; (conv => whnf); fail_if_success show False)
      | (rw [t_si]; (conv => whnf))
      | (refine ⟨_, rfl, ?_⟩; (conv => whnf))
      | (refine ⟨_, _, rfl, ?_⟩; (conv => whnf))
      | (refine ⟨_, _, _, rfl, ?_⟩; (conv => whnf))
      | (refine ⟨_, _, _, _, rfl, ?_⟩; (conv => whnf))
      | (refine And.intro (fun c => ?_) (fun c => ?_) <;> (first | (exact absurd c (by decide +kernel)) | (conv => whnf)))
      | fail)
    exact hQ M (hJ.sp.tr hM.sp) ((hM.2 0 (by decide) (by decide)).trans (hJ.2 0 (by decide))) (hM.cp hcp) (by rw [show gmany (tG I) a = (g_act (tG I) a).length from (g_actN_n).symm]; exact hA)
theorem ct_X11_castsOf {Iv : xI} (hI : xm_good Iv) : xm_Ct Iv yX11_castsOf (ws_ yX11_castsOf cX11_castsOf 2 (some .int)) 24 0 0 S_X11_castsOf := xm_enter (rt := 0) (init := false) (by decide +kernel) rfl (fun h => by cases h) (Or.inl ⟨rfl, rfl⟩) (oX11_castsOf hI) body_X11_castsOf
theorem cv_X11_castsOf {Iv : xI} {own : String} {cc : ByteArray} {fr pc idx : Nat} (hI : xm_good Iv) (hdg : decode cc pc = .ok (.invokevirtual idx, 3)) (hl : xm_ml own idx yX11_castsOf) (hfr : 24 < fr) : xm_CallOK Iv own cc fr pc (pc + 3) 2 0 0 (xm_this 8 S_X11_castsOf) := xm_callV 8 hI (ct_X11_castsOf hI) hdg hl q2466 qs105 q145 q2467 rfl rfl (by decide +kernel) hfr (by decide)
abbrev bX11_isCast_0 : List xE := [(.aload_n 0, 1, 0, 0, 0), (.iload_n 2, 2, 0, 0, 0), (.iconst 0, 3, 0, 0, 0), (.invokevirtual 408, 6, 0, 0, 9), (.aload_n 0, 7, 0, 0, 0), (.aload_n 1, 8, 0, 0, 0), (.aload_n 0, 9, 0, 0, 0), (.aload_n 1, 10, 0, 0, 0), (.invokevirtual 324, 13, 0, 1, 9), (.iconst 1, 14, 0, 0, 0), (.invokevirtual 411, 17, 0, 2, 9), (.ifCond .le 7, 20, 0, 24, 0), (.iconst 1, 21, 0, 0, 0), (.goto 4, 24, 0, 25, 0)]
abbrev bX11_isCast_24 : List xE := [(.iconst 0, 25, 0, 0, 0)]
abbrev bX11_isCast_25 : List xE := [(.ireturn, 26, 0, 0, 0)]
abbrev kX11_isCast : List (Nat × List xE) := [(0, bX11_isCast_0), (24, bX11_isCast_24), (25, bX11_isCast_25)]
abbrev lX11_isCast : List (Nat × Nat × Nat × xS) := [(3, 0, 0, xm_this 8 S_X11_sets), (2, 0, 0, xm_this 8 S_X11_aliveOf), (4, 0, 0, xm_this 8 S_X11_castsNow)]
theorem oX11_isCast_0 {Iv : xI} (hI : xm_good Iv)  : xm_okb Iv RX11 cX11_isCast false 24 lX11_isCast bX11_isCast_0 0 := xo_0 dX11_isCast_0 rfl trivial (xo_0 dX11_isCast_1 rfl trivial (xo_0 dX11_isCast_2 rfl trivial (xo_c rfl (cv_X11_sets hI dX11_isCast_3 (Or.inl q2423) (by decide)) (xo_0 dX11_isCast_6 rfl trivial (xo_0 dX11_isCast_7 rfl trivial (xo_0 dX11_isCast_8 rfl trivial (xo_0 dX11_isCast_9 rfl trivial (xo_c rfl (cv_X11_aliveOf hI dX11_isCast_10 (Or.inl q2288) (by decide)) (xo_0 dX11_isCast_13 rfl trivial (xo_c rfl (cv_X11_castsNow hI dX11_isCast_14 (Or.inl q2427) (by decide)) (xo_0 dX11_isCast_17 rfl rfl (xo_0 dX11_isCast_20 rfl trivial (xo_0 dX11_isCast_21 rfl rfl (xo_n))))))))))))))
theorem oX11_isCast_24 {Iv : xI} (hI : xm_good Iv)  : xm_okb Iv RX11 cX11_isCast false 24 lX11_isCast bX11_isCast_24 24 := xo_0 dX11_isCast_24 rfl trivial (xo_n)
theorem oX11_isCast_25 {Iv : xI} (hI : xm_good Iv)  : xm_okb Iv RX11 cX11_isCast false 24 lX11_isCast bX11_isCast_25 25 := xo_0 dX11_isCast_25 rfl trivial (xo_n)
theorem oX11_isCast {Iv : xI} (hI : xm_good Iv)  : ∀ q ∈ kX11_isCast, xm_okb Iv RX11 cX11_isCast false 24 lX11_isCast q.2 q.1 := by
  intro q hq
  simp only [List.mem_cons, List.not_mem_nil, or_false] at hq
  rcases hq with rfl | rfl | rfl
  · exact oX11_isCast_0 hI  
  · exact oX11_isCast_24 hI  
  · exact oX11_isCast_25 hI  
def S_X11_isCast : xS := tU fun as I Q => ∃ row a, as = [.ref 0, .ref row, .int (nI a)] ∧ t_row row ∧ t_good I ∧ g_need (tG I) ∧ a < t_a I ∧ ∀ J, t_sp I J → J 0 0 = I 0 0 → tA J row = tA I row → Q (some (.int (t_b (g_is (g_casts (tG I) (tA I row) (g_alive (tK I) (tA I row)) a))))) J
theorem body_X11_isCast : xm_Body 3 1 0 0 [] lX11_isCast kX11_isCast S_X11_isCast := by
  intro X avs w Q QX hX0 hS
  have hG := xm_go [] hX0
  have hX := xm_go [] hX0
  clear hX0
  obtain ⟨I, rfl, row, a, rfl, hr, hg, hnd, ha, hQ⟩ := hS
  obtain ⟨hP, h6⟩ := t_act_ok hg ha
  refine ⟨rfl, ?_⟩
  repeat' (first
    | ((with_reducible refine @And.intro (vp_in _ _) _ ?_ ?_); (· (first | with_reducible assumption | ((with_reducible refine t_vin ?_); decide) | ((with_reducible refine vp_in_nI ?_ ?_) <;> first | omega | decide) | (simp (disch := omega) only [xl_n, xl_m, nI_dec, nI_sb, nI_add, pk_mul]; (with_reducible refine vp_in_nI ?_ ?_) <;> first | omega | decide))); (conv => whnf))
    | (refine And.intro (by first | with_reducible assumption | exact (show tL _ = _ from rfl) | decide) ?_; (conv => whnf))
    | ((with_reducible refine @And.intro (_ = _) _ ?_ ?_); (· rfl); (conv => whnf))
    | ((with_reducible refine @And.intro (@LE.le Nat _ _ _) _ ?_ ?_); (· (first | exact Nat.zero_le _ | exact Nat.le_of_ble_eq_true rfl | omega)); (conv => whnf))
    | ((with_reducible refine @And.intro (@LT.lt Nat _ _ _) _ ?_ ?_); (· omega); (conv => whnf))
    | ((with_reducible refine @And.intro (∃ _, _ = _) _ ?_ ?_); (· exact ⟨_, rfl⟩); (conv => whnf))
    | ((with_reducible refine @And.intro (_ ∨ _) _ ?_ ?_); (· (first | exact Or.inl rfl | exact Or.inr rfl | exact t_b01 _ | assumption)); (conv => whnf))
    | ((with_reducible refine @And.intro (¬ (_ = _)) _ ?_ ?_); (· first | assumption | (with_reducible assumption)); (conv => whnf))
    | (refine hX _ _ _ _ _ _ ?_; (conv => whnf); fail_if_success show False)
    | (rw [t_si]; (conv => whnf))
    | (refine ⟨_, rfl, ?_⟩; (conv => whnf))
    | (refine ⟨_, _, rfl, ?_⟩; (conv => whnf))
    | (refine ⟨_, _, _, rfl, ?_⟩; (conv => whnf))
    | (refine ⟨_, _, _, _, rfl, ?_⟩; (conv => whnf))
    | (refine And.intro (fun c => ?_) (fun c => ?_) <;> (first | (exact absurd c (by decide +kernel)) | (conv => whnf)))
    | fail)
  refine ⟨a, [], rfl, hg, ha, Nat.zero_le _, t_cq_0, fun J hJ hcp => ?_⟩
  rw [List.nil_append] at hcp
  have hgJ := hJ.sp.good hg
  have hokJ := hgJ.1
  have eG := hJ.sp.G hg
  (conv => whnf)
  repeat' (first
    | ((with_reducible refine @And.intro (vp_in _ _) _ ?_ ?_); (· (first | with_reducible assumption | ((with_reducible refine t_vin ?_); decide) | ((with_reducible refine vp_in_nI ?_ ?_) <;> first | omega | decide) | (simp (disch := omega) only [xl_n, xl_m, nI_dec, nI_sb, nI_add, pk_mul]; (with_reducible refine vp_in_nI ?_ ?_) <;> first | omega | decide))); (conv => whnf))
    | (refine And.intro (by first | with_reducible assumption | exact (show tL _ = _ from rfl) | decide) ?_; (conv => whnf))
    | ((with_reducible refine @And.intro (_ = _) _ ?_ ?_); (· rfl); (conv => whnf))
    | ((with_reducible refine @And.intro (@LE.le Nat _ _ _) _ ?_ ?_); (· (first | exact Nat.zero_le _ | exact Nat.le_of_ble_eq_true rfl | omega)); (conv => whnf))
    | ((with_reducible refine @And.intro (@LT.lt Nat _ _ _) _ ?_ ?_); (· omega); (conv => whnf))
    | ((with_reducible refine @And.intro (∃ _, _ = _) _ ?_ ?_); (· exact ⟨_, rfl⟩); (conv => whnf))
    | ((with_reducible refine @And.intro (_ ∨ _) _ ?_ ?_); (· (first | exact Or.inl rfl | exact Or.inr rfl | exact t_b01 _ | assumption)); (conv => whnf))
    | ((with_reducible refine @And.intro (¬ (_ = _)) _ ?_ ?_); (· first | assumption | (with_reducible assumption)); (conv => whnf))
    | (refine hX _ _ _ _ _ _ ?_; (conv => whnf); fail_if_success show False)
    | (rw [t_si]; (conv => whnf))
    | (refine ⟨_, rfl, ?_⟩; (conv => whnf))
    | (refine ⟨_, _, rfl, ?_⟩; (conv => whnf))
    | (refine ⟨_, _, _, rfl, ?_⟩; (conv => whnf))
    | (refine ⟨_, _, _, _, rfl, ?_⟩; (conv => whnf))
    | (refine And.intro (fun c => ?_) (fun c => ?_) <;> (first | (exact absurd c (by decide +kernel)) | (conv => whnf)))
    | fail)
  refine ⟨row, g_act (tG I) a, g_alive (tK J) (tA J row), true, rfl, hr, hgJ, by rw [eG]; exact hnd, (by omega), ?_, hcp, fun z => (by cases z), fun M hM hA => ?_⟩
  · rw [t_p_eq (hJ.1 12 (by decide) (by decide) (by decide))]
    exact hP
  · have eK : tK J = tK I := hJ.sp.same.K hg
    rw [eG, eK, hJ.A hr]
    have hQ := hQ M (hJ.sp.tr hM.sp) ((hM.2 0 (by decide) (by decide)).trans (hJ.2 0 (by decide))) ((hM.A hr).trans (hJ.A hr))
    (conv => whnf)
    repeat' (first
      | ((with_reducible refine @And.intro (vp_in _ _) _ ?_ ?_); (· (first | with_reducible assumption | ((with_reducible refine t_vin ?_); decide) | ((with_reducible refine vp_in_nI ?_ ?_) <;> first | omega | decide) | (simp (disch := omega) only [xl_n, xl_m, nI_dec, nI_sb, nI_add, pk_mul]; (with_reducible refine vp_in_nI ?_ ?_) <;> first | omega | decide))); (conv => whnf))
      | (refine And.intro (by first | with_reducible assumption | exact (show tL _ = _ from rfl) | decide) ?_; (conv => whnf))
      | ((with_reducible refine @And.intro (_ = _) _ ?_ ?_); (· rfl); (conv => whnf))
      | ((with_reducible refine @And.intro (@LE.le Nat _ _ _) _ ?_ ?_); (· (first | exact Nat.zero_le _ | exact Nat.le_of_ble_eq_true rfl | omega)); (conv => whnf))
      | ((with_reducible refine @And.intro (@LT.lt Nat _ _ _) _ ?_ ?_); (· omega); (conv => whnf))
      | ((with_reducible refine @And.intro (∃ _, _ = _) _ ?_ ?_); (· exact ⟨_, rfl⟩); (conv => whnf))
      | ((with_reducible refine @And.intro (_ ∨ _) _ ?_ ?_); (· (first | exact Or.inl rfl | exact Or.inr rfl | exact t_b01 _ | assumption)); (conv => whnf))
      | ((with_reducible refine @And.intro (¬ (_ = _)) _ ?_ ?_); (· first | assumption | (with_reducible assumption)); (conv => whnf))
      | (refine hX _ _ _ _ _ _ ?_; (conv => whnf); fail_if_success show False)
      | (rw [t_si]; (conv => whnf))
      | (refine ⟨_, rfl, ?_⟩; (conv => whnf))
      | (refine ⟨_, _, rfl, ?_⟩; (conv => whnf))
      | (refine ⟨_, _, _, rfl, ?_⟩; (conv => whnf))
      | (refine ⟨_, _, _, _, rfl, ?_⟩; (conv => whnf))
      | (refine And.intro (fun c => ?_) (fun c => ?_) <;> (first | (exact absurd c (by decide +kernel)) | (conv => whnf)))
      | fail)
    · have c' : g_ans true (g_casts (tG I) (tA I row) (g_alive (tK I) (tA I row)) a) ≤ 0 := by assumption
      rw [g_ans_le] at c'
      rw [c'] at hQ
      exact hQ
    · have c' : ¬ g_ans true (g_casts (tG I) (tA I row) (g_alive (tK I) (tA I row)) a) ≤ 0 := by assumption
      rw [g_ans_le, Bool.not_eq_false] at c'
      rw [c'] at hQ
      exact hQ
theorem ct_X11_isCast {Iv : xI} (hI : xm_good Iv) : xm_Ct Iv yX11_isCast (ws_ yX11_isCast cX11_isCast 3 (some .boolean)) 24 0 0 S_X11_isCast := xm_enter (rt := 1) (init := false) (by decide +kernel) rfl (fun h => by cases h) (Or.inr (Or.inl ⟨rfl, Or.inl rfl⟩)) (oX11_isCast hI) body_X11_isCast
theorem cv_X11_isCast {Iv : xI} {own : String} {cc : ByteArray} {fr pc idx : Nat} (hI : xm_good Iv) (hdg : decode cc pc = .ok (.invokevirtual idx, 3)) (hl : xm_ml own idx yX11_isCast) (hfr : 24 < fr) : xm_CallOK Iv own cc fr pc (pc + 3) 3 0 0 (xm_this 8 S_X11_isCast) := xm_callV 8 hI (ct_X11_isCast hI) hdg hl q2421 qs100 q145 q2422 rfl rfl (by decide +kernel) hfr (by decide)
def q_casts (G : gG) (a : Int32) : gR := g_ck G (g_isA G a) (nI 1) 0 (g_says G (g_many (g_nowc G a.toNatClampNeg)))
abbrev bX11_casts_0 : List xE := [(.aload_n 0, 1, 0, 0, 0), (.iconst 0, 2, 0, 0, 0), (.putfield 134, 5, 8, 0, 0), (.aload_n 0, 6, 0, 0, 0), (.aload_n 0, 7, 0, 0, 0), (.iload_n 1, 8, 0, 0, 0), (.invokevirtual 344, 11, 0, 0, 9), (.ifCond .ne 7, 14, 0, 18, 0), (.iconst 1, 15, 0, 0, 0), (.goto 4, 18, 0, 19, 0)]
abbrev bX11_casts_18 : List xE := [(.iconst 0, 19, 0, 0, 0)]
abbrev bX11_casts_19 : List xE := [(.iconst 1, 20, 0, 0, 0), (.iconst 0, 21, 0, 0, 0), (.invokevirtual 249, 24, 0, 1, 9), (.ifCond .eq 5, 27, 0, 29, 0), (.iconst 0, 28, 0, 0, 0), (.ireturn, 29, 0, 0, 0)]
abbrev bX11_casts_29 : List xE := [(.aload_n 0, 30, 0, 0, 0), (.iload_n 1, 31, 0, 0, 0), (.invokevirtual 415, 34, 0, 2, 9), (.ireturn, 35, 0, 0, 0)]
abbrev kX11_casts : List (Nat × List xE) := [(0, bX11_casts_0), (18, bX11_casts_18), (19, bX11_casts_19), (29, bX11_casts_29)]
abbrev lX11_casts : List (Nat × Nat × Nat × xS) := [(2, 0, 0, xm_this 8 S_X11_isAct), (4, 0, 0, xm_this 8 S_X11_bad), (2, 0, 0, xm_this 8 S_X11_castsOf)]
theorem oX11_casts_0 {Iv : xI} (hI : xm_good Iv)  : xm_okb Iv RX11 cX11_casts false 25 lX11_casts bX11_casts_0 0 := xo_0 dX11_casts_0 rfl trivial (xo_0 dX11_casts_1 rfl trivial (xo_0 dX11_casts_2 rfl (xm_fp_of (xm_fg_of (Or.inl q1955) (by decide) rfl (by decide) rfl rfl (Or.inl rfl) rfl) (by decide) rfl (Or.inl ⟨rfl, rfl⟩) rfl) (xo_0 dX11_casts_5 rfl trivial (xo_0 dX11_casts_6 rfl trivial (xo_0 dX11_casts_7 rfl trivial (xo_c rfl (cv_X11_isAct hI dX11_casts_8 (Or.inl q2331) (by decide)) (xo_0 dX11_casts_11 rfl rfl (xo_0 dX11_casts_14 rfl trivial (xo_0 dX11_casts_15 rfl rfl (xo_n))))))))))
theorem oX11_casts_18 {Iv : xI} (hI : xm_good Iv)  : xm_okb Iv RX11 cX11_casts false 25 lX11_casts bX11_casts_18 18 := xo_0 dX11_casts_18 rfl trivial (xo_n)
theorem oX11_casts_19 {Iv : xI} (hI : xm_good Iv)  : xm_okb Iv RX11 cX11_casts false 25 lX11_casts bX11_casts_19 19 := xo_0 dX11_casts_19 rfl trivial (xo_0 dX11_casts_20 rfl trivial (xo_c rfl (cv_X11_bad hI dX11_casts_21 (Or.inl q2137) (by decide)) (xo_0 dX11_casts_24 rfl rfl (xo_0 dX11_casts_27 rfl trivial (xo_0 dX11_casts_28 rfl trivial (xo_n))))))
theorem oX11_casts_29 {Iv : xI} (hI : xm_good Iv)  : xm_okb Iv RX11 cX11_casts false 25 lX11_casts bX11_casts_29 29 := xo_0 dX11_casts_29 rfl trivial (xo_0 dX11_casts_30 rfl trivial (xo_c rfl (cv_X11_castsOf hI dX11_casts_31 (Or.inl q2464) (by decide)) (xo_0 dX11_casts_34 rfl trivial (xo_n))))
theorem oX11_casts {Iv : xI} (hI : xm_good Iv)  : ∀ q ∈ kX11_casts, xm_okb Iv RX11 cX11_casts false 25 lX11_casts q.2 q.1 := by
  intro q hq
  simp only [List.mem_cons, List.not_mem_nil, or_false] at hq
  rcases hq with rfl | rfl | rfl | rfl
  · exact oX11_casts_0 hI  
  · exact oX11_casts_18 hI  
  · exact oX11_casts_19 hI  
  · exact oX11_casts_29 hI  
def S_X11_casts : xS := tU fun as I Q => ∃ a, as = [.ref 0, .int a] ∧ t_good I ∧ g_need (tG I) ∧ t_P Q (q_casts (tG I) a)
theorem body_X11_casts : xm_Body 2 0 0 0 [] lX11_casts kX11_casts S_X11_casts := by
  intro X avs w Q QX hX0 hS
  have hG := xm_go [] hX0
  have hX := xm_go [] hX0
  clear hX0
  obtain ⟨I, rfl, a, rfl, hg, hnd, hQ⟩ := hS
  refine ⟨rfl, ?_⟩
  repeat' (first
    | ((with_reducible refine @And.intro (vp_in _ _) _ ?_ ?_); (· (first | with_reducible assumption | ((with_reducible refine t_vin ?_); decide) | ((with_reducible refine vp_in_nI ?_ ?_) <;> first | omega | decide) | (simp (disch := omega) only [xl_n, xl_m, nI_dec, nI_sb, nI_add, pk_mul]; (with_reducible refine vp_in_nI ?_ ?_) <;> first | omega | decide))); (conv => whnf))
    | (refine And.intro (by first | with_reducible assumption | exact (show tL _ = _ from rfl) | decide) ?_; (conv => whnf))
    | ((with_reducible refine @And.intro (_ = _) _ ?_ ?_); (· rfl); (conv => whnf))
    | ((with_reducible refine @And.intro (@LE.le Nat _ _ _) _ ?_ ?_); (· (first | exact Nat.zero_le _ | exact Nat.le_of_ble_eq_true rfl | omega)); (conv => whnf))
    | ((with_reducible refine @And.intro (@LT.lt Nat _ _ _) _ ?_ ?_); (· omega); (conv => whnf))
    | ((with_reducible refine @And.intro (∃ _, _ = _) _ ?_ ?_); (· exact ⟨_, rfl⟩); (conv => whnf))
    | ((with_reducible refine @And.intro (_ ∨ _) _ ?_ ?_); (· (first | exact Or.inl rfl | exact Or.inr rfl | exact t_b01 _ | assumption)); (conv => whnf))
    | ((with_reducible refine @And.intro (¬ (_ = _)) _ ?_ ?_); (· first | assumption | (with_reducible assumption)); (conv => whnf))
    | (refine hX _ _ _ _ _ _ ?_; (conv => whnf); fail_if_success show False)
    | fail)
  rw [t_si]
  obtain ⟨J, hJ, hg1, hG1, h01⟩ := t_pub hg
  rw [← hJ]
  rw [← hG1] at hQ hnd
  clear hJ hG1 hg I
  have hg := hg1
  have hok := hg.1
  have hl := hg.2.1
  have h8 := hok.2.2.2.1
  have h9 := hok.2.1
  (conv => whnf)
  rcases t_ac hg a with ⟨p, hp, rfl, e1, f1⟩ | ⟨e1, f1⟩
  · rw [q_casts, f1, g_ck_t, nI_clamp (by have := hok.2.2.2.2.2; omega)] at hQ
    repeat' (first
      | ((with_reducible refine @And.intro (vp_in _ _) _ ?_ ?_); (· (first | with_reducible assumption | ((with_reducible refine t_vin ?_); decide) | ((with_reducible refine vp_in_nI ?_ ?_) <;> first | omega | decide) | (simp (disch := omega) only [xl_n, xl_m, nI_dec, nI_sb, nI_add, pk_mul]; (with_reducible refine vp_in_nI ?_ ?_) <;> first | omega | decide))); (conv => whnf))
      | (refine And.intro (by first | with_reducible assumption | exact (show tL _ = _ from rfl) | decide) ?_; (conv => whnf))
      | ((with_reducible refine @And.intro (_ = _) _ ?_ ?_); (· rfl); (conv => whnf))
      | ((with_reducible refine @And.intro (@LE.le Nat _ _ _) _ ?_ ?_); (· (first | exact Nat.zero_le _ | exact Nat.le_of_ble_eq_true rfl | omega)); (conv => whnf))
      | ((with_reducible refine @And.intro (@LT.lt Nat _ _ _) _ ?_ ?_); (· omega); (conv => whnf))
      | ((with_reducible refine @And.intro (∃ _, _ = _) _ ?_ ?_); (· exact ⟨_, rfl⟩); (conv => whnf))
      | ((with_reducible refine @And.intro (_ ∨ _) _ ?_ ?_); (· (first | exact Or.inl rfl | exact Or.inr rfl | exact t_b01 _ | assumption)); (conv => whnf))
      | ((with_reducible refine @And.intro (¬ (_ = _)) _ ?_ ?_); (· first | assumption | (with_reducible assumption)); (conv => whnf))
      | (refine hX _ _ _ _ _ _ ?_; (conv => whnf); fail_if_success show False)
      | (rw [t_si]; (conv => whnf))
      | (refine ⟨_, rfl, ?_⟩; (conv => whnf))
      | (refine ⟨_, _, rfl, ?_⟩; (conv => whnf))
      | (refine ⟨_, _, _, rfl, ?_⟩; (conv => whnf))
      | (refine ⟨_, _, _, _, rfl, ?_⟩; (conv => whnf))
      | (rw [e1]; (conv => whnf))
      | (refine And.intro (fun c => ?_) (fun c => ?_) <;> (first | (exact absurd c (by decide +kernel)) | (conv => whnf)))
      | fail)
    intro M hM h0 _ _
    (conv => whnf)
    repeat' (first
      | ((with_reducible refine @And.intro (vp_in _ _) _ ?_ ?_); (· (first | with_reducible assumption | ((with_reducible refine t_vin ?_); decide) | ((with_reducible refine vp_in_nI ?_ ?_) <;> first | omega | decide) | (simp (disch := omega) only [xl_n, xl_m, nI_dec, nI_sb, nI_add, pk_mul]; (with_reducible refine vp_in_nI ?_ ?_) <;> first | omega | decide))); (conv => whnf))
      | (refine And.intro (by first | with_reducible assumption | exact (show tL _ = _ from rfl) | decide) ?_; (conv => whnf))
      | ((with_reducible refine @And.intro (_ = _) _ ?_ ?_); (· rfl); (conv => whnf))
      | ((with_reducible refine @And.intro (@LE.le Nat _ _ _) _ ?_ ?_); (· (first | exact Nat.zero_le _ | exact Nat.le_of_ble_eq_true rfl | omega)); (conv => whnf))
      | ((with_reducible refine @And.intro (@LT.lt Nat _ _ _) _ ?_ ?_); (· omega); (conv => whnf))
      | ((with_reducible refine @And.intro (∃ _, _ = _) _ ?_ ?_); (· exact ⟨_, rfl⟩); (conv => whnf))
      | ((with_reducible refine @And.intro (_ ∨ _) _ ?_ ?_); (· (first | exact Or.inl rfl | exact Or.inr rfl | exact t_b01 _ | assumption)); (conv => whnf))
      | ((with_reducible refine @And.intro (¬ (_ = _)) _ ?_ ?_); (· first | assumption | (with_reducible assumption)); (conv => whnf))
      | (refine hX _ _ _ _ _ _ ?_; (conv => whnf); fail_if_success show False)
      | (rw [t_si]; (conv => whnf))
      | (refine ⟨_, rfl, ?_⟩; (conv => whnf))
      | (refine ⟨_, _, rfl, ?_⟩; (conv => whnf))
      | (refine ⟨_, _, _, rfl, ?_⟩; (conv => whnf))
      | (refine ⟨_, _, _, _, rfl, ?_⟩; (conv => whnf))
      | (refine And.intro (fun c => ?_) (fun c => ?_) <;> (first | (exact absurd c (by decide +kernel)) | (conv => whnf)))
      | fail)
    exact t_ask hQ hg hM (h0.trans h01) rfl
  · rw [q_casts] at hQ
    repeat' (first
      | ((with_reducible refine @And.intro (vp_in _ _) _ ?_ ?_); (· (first | with_reducible assumption | ((with_reducible refine t_vin ?_); decide) | ((with_reducible refine vp_in_nI ?_ ?_) <;> first | omega | decide) | (simp (disch := omega) only [xl_n, xl_m, nI_dec, nI_sb, nI_add, pk_mul]; (with_reducible refine vp_in_nI ?_ ?_) <;> first | omega | decide))); (conv => whnf))
      | (refine And.intro (by first | with_reducible assumption | exact (show tL _ = _ from rfl) | decide) ?_; (conv => whnf))
      | ((with_reducible refine @And.intro (_ = _) _ ?_ ?_); (· rfl); (conv => whnf))
      | ((with_reducible refine @And.intro (@LE.le Nat _ _ _) _ ?_ ?_); (· (first | exact Nat.zero_le _ | exact Nat.le_of_ble_eq_true rfl | omega)); (conv => whnf))
      | ((with_reducible refine @And.intro (@LT.lt Nat _ _ _) _ ?_ ?_); (· omega); (conv => whnf))
      | ((with_reducible refine @And.intro (∃ _, _ = _) _ ?_ ?_); (· exact ⟨_, rfl⟩); (conv => whnf))
      | ((with_reducible refine @And.intro (_ ∨ _) _ ?_ ?_); (· (first | exact Or.inl rfl | exact Or.inr rfl | exact t_b01 _ | assumption)); (conv => whnf))
      | ((with_reducible refine @And.intro (¬ (_ = _)) _ ?_ ?_); (· first | assumption | (with_reducible assumption)); (conv => whnf))
      | (refine hX _ _ _ _ _ _ ?_; (conv => whnf); fail_if_success show False)
      | (rw [t_si]; (conv => whnf))
      | (refine ⟨_, rfl, ?_⟩; (conv => whnf))
      | (refine ⟨_, _, rfl, ?_⟩; (conv => whnf))
      | (refine ⟨_, _, _, rfl, ?_⟩; (conv => whnf))
      | (refine ⟨_, _, _, _, rfl, ?_⟩; (conv => whnf))
      | (rw [e1]; (conv => whnf))
      | (refine And.intro (fun c => ?_) (fun c => ?_) <;> (first | (exact absurd c (by decide +kernel)) | (conv => whnf)))
      | fail)
    exact t_ref' hQ hg h01 (by simp [f1]) (by decide) rfl rfl
theorem ct_X11_casts {Iv : xI} (hI : xm_good Iv) : xm_Ct Iv yX11_casts (ws_ yX11_casts cX11_casts 2 (some .int)) 25 0 0 S_X11_casts := xm_enter (rt := 0) (init := false) (by decide +kernel) rfl (fun h => by cases h) (Or.inl ⟨rfl, rfl⟩) (oX11_casts hI) body_X11_casts
theorem cv_X11_casts {Iv : xI} {own : String} {cc : ByteArray} {fr pc idx : Nat} (hI : xm_good Iv) (hdg : decode cc pc = .ok (.invokevirtual idx, 3)) (hl : xm_ml own idx yX11_casts) (hfr : 25 < fr) : xm_CallOK Iv own cc fr pc (pc + 3) 2 0 0 (xm_this 8 S_X11_casts) := xm_callV 8 hI (ct_X11_casts hI) hdg hl q2461 q2462 q145 q2463 rfl rfl (by decide +kernel) hfr (by decide)
