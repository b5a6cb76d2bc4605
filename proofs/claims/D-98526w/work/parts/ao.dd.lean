/-! ===== the component: casts asked for ===== -/
set_option maxRecDepth 100000
set_option maxHeartbeats 1000000
section
variable {P : cP} {Z : cX} {I J : tI} {L : List lC}
theorem c_al_b {n r : Nat} : ∀ k, k < 32 → t_has (t_or n (fun h => decide (I (10 * r) h = nI 1))) k = true → n ≤ 9 → k < n := fun k hk h hn => by
  rw [th_OR (by omega) hk, Bool.and_eq_true, decide_eq_true_eq] at h
  exact h.1
theorem c_al_c {n : Nat} {p : Nat → Bool} {x : Int32} (hn : n ≤ 9) : ∀ k, k < 32 → t_has (t_or n p &&& x) k = true → k < n := fun k hk h => by
  rw [th_and hk, th_OR (by omega) hk, Bool.and_eq_true, Bool.and_eq_true, decide_eq_true_eq] at h
  exact h.1.1
theorem c_al_a {n : Nat} {p : Nat → Bool} (hn : n ≤ 9) : ∀ k, k < 32 → t_has (t_or n p) k = true → k < n := fun k hk h => by
  rw [th_OR (by omega) hk, Bool.and_eq_true, decide_eq_true_eq] at h
  exact h.1
theorem g_act_at {G : gG} {a k : Nat} (h : k < gmany G a) : (g_act G a)[k]? = some (gpup G a k, glaugh G a) := by
  unfold g_act g_actN
  rw [List.getElem?_map, List.getElem?_range h]
  rfl
theorem g_act_len {G : gG} {a : Nat} : (g_act G a).length = gmany G a := g_actN_n
theorem g_casts_len {G : gG} {T : gT} {al : Int32} {a : Nat} (h : ¬ g_casts G T al a = []) : (g_act G a).length = ((g_casts G T al a).headD []).length := by
  cases e : g_casts G T al a with
  | nil => exact absurd e h
  | cons c L =>
    refine (g_cs_len (G := G) (T := T) (al := al) (used := nI 0) ?_).symm
    show c ∈ g_casts G T al a
    rw [e]
    exact List.mem_cons_self
theorem c_pup (hg : c_good P Z I L) {a i : Nat} (ha : a < P.1) (hi : i < gmany (cG P I L) a) : gpup (cG P I L) a i < c_p I ∧ I (90 + a) i = nI (gpup (cG P I L) a i) := by
  obtain ⟨a2, a6, a3, ap⟩ := hg.2.2.2.1 a ha
  obtain ⟨p, hp, e⟩ := ap i hi
  have h8 := hg.ok.2.2.2
  have : gpup (cG P I L) a i = p := by
    show (if i < c_am P I a then (I (90 + a) i).toNatClampNeg else 0) = p
    rw [if_pos (show i < c_am P I a from hi), e, nI_clamp (by omega)]
  rw [this]
  exact ⟨hp, e⟩
end
theorem g_many_min {L : List (List Int32)} : nI (min 1000000 L.length) = g_many L := by
  unfold g_many
  by_cases h : L.length ≤ 1000000
  · rw [if_pos h, Nat.min_eq_right h]
  · rw [if_neg h, Nat.min_eq_left (by omega)]
theorem xl_mil : Int32.ofInt 1000000 = nI 1000000 := by decide +kernel
abbrev bX1_casts_0 : List xE := [(.aload_n 0, 1, 0, 0, 0), (.iload_n 1, 2, 0, 0, 0), (.invokevirtual 262, 5, 0, 0, 9), (.aload_n 0, 6, 0, 0, 0), (.aload_n 0, 7, 0, 0, 0), (.getfield 58, 10, 0, 5, 1), (.iload_n 1, 11, 0, 0, 0), (.aload_n 0, 12, 0, 0, 0), (.getfield 58, 15, 0, 5, 1), (.invokevirtual 204, 18, 0, 1, 9), (.ldc_w 348, 21, 1000000, 0, 0), (.invokevirtual 344, 24, 0, 2, 9), (.ireturn, 25, 0, 0, 0)]
abbrev kX1_casts : List (Nat × List xE) := [(0, bX1_casts_0)]
abbrev lX1_casts : List (Nat × Nat × Nat × xS) := [(2, 1, 6, xm_this 0 S_X1_needAct), (1, 0, 0, xm_this 7 S_X10_alive), (5, 0, 0, xm_this 0 S_X1_castsOf)]
theorem oX1_casts_0  : xm_okb cI RX1 cX1_casts false 18 lX1_casts bX1_casts_0 0 := xo_0 dX1_casts_0 rfl trivial (xo_0 dX1_casts_1 rfl trivial (xo_c rfl (cv_X1_needAct dX1_casts_2 (Or.inl q1618) (by decide)) (xo_0 dX1_casts_5 rfl trivial (xo_0 dX1_casts_6 rfl trivial (xo_1 dX1_casts_7 rfl (xm_fg_of (Or.inl q724) (by decide) rfl (by decide) rfl rfl (Or.inl rfl) rfl) (xo_0 dX1_casts_10 rfl trivial (xo_0 dX1_casts_11 rfl trivial (xo_1 dX1_casts_12 rfl (xm_fg_of (Or.inl q724) (by decide) rfl (by decide) rfl rfl (Or.inl rfl) rfl) (xo_c rfl (cv_X10_alive dX1_casts_15 (Or.inl q802) (by decide)) (xo_0 dX1_casts_18 rfl q1733 (xo_c rfl (cv_X1_castsOf dX1_casts_21 (Or.inl q818) (by decide)) (xo_0 dX1_casts_24 rfl trivial (xo_n)))))))))))))
theorem oX1_casts  : ∀ q ∈ kX1_casts, xm_okb cI RX1 cX1_casts false 18 lX1_casts q.2 q.1 := by
  intro q hq
  simp only [List.mem_cons, List.not_mem_nil, or_false] at hq
  subst hq
  exact oX1_casts_0  
def S_X1_casts : xS := cU fun as P Z I Q QX => ∃ a L, as = [.ref 0, .int a] ∧ c_good P Z I L ∧ g_ok (cG P I L) ∧ c_P P Z L (cG P I L) Q QX (q_casts (cG P I L) a)
theorem body_X1_casts : xm_Body 2 0 1 6 [] lX1_casts kX1_casts S_X1_casts := by
  intro X avs w Q QX hX0 hS
  have hG := xm_go [] hX0
  have hX := xm_go [] hX0
  clear hX0
  obtain ⟨P, Z, I, rfl, a, L, rfl, hg, hk0, hQ⟩ := hS
  have hok := hg.ok
  obtain ⟨hn, h9, hm, h8⟩ := id hok
  have h5 := c_5 (P := P)
  have hi := hg.now.2.2.1
  have hl := hg.ls
  obtain ⟨h6, hs, hc, hc2⟩ := id hl
  refine ⟨rfl, ?_⟩
  repeat' (first
    | ((with_reducible refine @And.intro (vp_in _ _) _ ?_ ?_); (· (first | with_reducible assumption | ((with_reducible refine t_vin ?_); decide) | ((with_reducible refine vp_in_nI ?_ ?_) <;> first | omega | decide) | (simp (disch := omega) only [xl_n, xl_m, nI_dec, nI_sb, nI_add, pk_mul]; (with_reducible refine vp_in_nI ?_ ?_) <;> first | omega | decide))); (conv => whnf))
    | (refine And.intro (by first | with_reducible assumption | exact (show cL _ _ = _ from rfl) | decide) ?_; (conv => whnf))
    | ((with_reducible refine @And.intro (_ = _) _ ?_ ?_); (· rfl); (conv => whnf))
    | ((with_reducible refine @And.intro (@LE.le Nat _ _ _) _ ?_ ?_); (· (first | exact Nat.zero_le _ | exact Nat.le_of_ble_eq_true rfl | omega)); (conv => whnf))
    | ((with_reducible refine @And.intro (@LT.lt Nat _ _ _) _ ?_ ?_); (· omega); (conv => whnf))
    | ((with_reducible refine @And.intro (∃ _, _ = _) _ ?_ ?_); (· exact ⟨_, rfl⟩); (conv => whnf))
    | ((with_reducible refine @And.intro (_ ∨ _) _ ?_ ?_); (· (first | exact Or.inl rfl | exact Or.inr rfl | exact t_b01 _ | assumption)); (conv => whnf))
    | ((with_reducible refine @And.intro (¬ (_ = _)) _ ?_ ?_); (· first | assumption | (with_reducible assumption)); (conv => whnf))
    | (refine hX _ _ _ _ _ _ ?_; (conv => whnf); fail_if_success show False)
    | (rw [c_si]; (conv => whnf))
    | (refine ⟨_, rfl, ?_⟩; (conv => whnf))
    | (refine ⟨_, _, rfl, ?_⟩; (conv => whnf))
    | (refine ⟨_, _, _, rfl, ?_⟩; (conv => whnf))
    | (refine ⟨_, _, _, _, rfl, ?_⟩; (conv => whnf))
    | (refine ⟨a,rfl,hs,h6,?_⟩; (conv => whnf))
    | fail)
  refine ⟨fun e => ?_, fun e x hx => ?_⟩
  · obtain ⟨p, hp, rfl⟩ := t_in_of (by omega) e
    have f : g_isA (cG P I L) (nI p) = true := e
    rw [q_casts, f, g_ck_t, nI_clamp (by omega)] at hQ
    (conv => whnf)
    repeat' (first
      | ((with_reducible refine @And.intro (vp_in _ _) _ ?_ ?_); (· (first | with_reducible assumption | ((with_reducible refine t_vin ?_); decide) | ((with_reducible refine vp_in_nI ?_ ?_) <;> first | omega | decide) | (simp (disch := omega) only [xl_n, xl_m, nI_dec, nI_sb, nI_add, pk_mul]; (with_reducible refine vp_in_nI ?_ ?_) <;> first | omega | decide))); (conv => whnf))
      | (refine And.intro (by first | with_reducible assumption | exact (show cL _ _ = _ from rfl) | decide) ?_; (conv => whnf))
      | ((with_reducible refine @And.intro (_ = _) _ ?_ ?_); (· rfl); (conv => whnf))
      | ((with_reducible refine @And.intro (@LE.le Nat _ _ _) _ ?_ ?_); (· (first | exact Nat.zero_le _ | exact Nat.le_of_ble_eq_true rfl | omega)); (conv => whnf))
      | ((with_reducible refine @And.intro (@LT.lt Nat _ _ _) _ ?_ ?_); (· omega); (conv => whnf))
      | ((with_reducible refine @And.intro (∃ _, _ = _) _ ?_ ?_); (· exact ⟨_, rfl⟩); (conv => whnf))
      | ((with_reducible refine @And.intro (_ ∨ _) _ ?_ ?_); (· (first | exact Or.inl rfl | exact Or.inr rfl | exact t_b01 _ | assumption)); (conv => whnf))
      | ((with_reducible refine @And.intro (¬ (_ = _)) _ ?_ ?_); (· first | assumption | (with_reducible assumption)); (conv => whnf))
      | (refine hX _ _ _ _ _ _ ?_; (conv => whnf); fail_if_success show False)
      | (rw [c_si]; (conv => whnf))
      | (refine ⟨_, rfl, ?_⟩; (conv => whnf))
      | (refine ⟨_, _, rfl, ?_⟩; (conv => whnf))
      | (refine ⟨_, _, _, rfl, ?_⟩; (conv => whnf))
      | (refine ⟨_, _, _, _, rfl, ?_⟩; (conv => whnf))
      | (refine ⟨5,rfl,h5,hok,hi,?_⟩; (conv => whnf))
      | (refine And.intro (fun c => ?_) (fun c => ?_) <;> (first | (exact absurd c (by decide +kernel)) | (conv => whnf)))
      | fail)
    refine ⟨5, p, L, _, 1000000, congrArg (fun z => [Value.ref 0, Value.ref 5, Value.int (nI p), Value.int _, Value.int z]) xl_mil, h5, hg, hk0, hp, c_al_a h9, by decide, by decide, fun J hJ _ => ?_⟩
    rw [c_al (L := L) hi, g_many_min]
    (conv => whnf)
    repeat' (first
      | ((with_reducible refine @And.intro (vp_in _ _) _ ?_ ?_); (· (first | with_reducible assumption | ((with_reducible refine t_vin ?_); decide) | ((with_reducible refine vp_in_nI ?_ ?_) <;> first | omega | decide) | (simp (disch := omega) only [xl_n, xl_m, nI_dec, nI_sb, nI_add, pk_mul]; (with_reducible refine vp_in_nI ?_ ?_) <;> first | omega | decide))); (conv => whnf))
      | (refine And.intro (by first | with_reducible assumption | exact (show cL _ _ = _ from rfl) | decide) ?_; (conv => whnf))
      | ((with_reducible refine @And.intro (_ = _) _ ?_ ?_); (· rfl); (conv => whnf))
      | ((with_reducible refine @And.intro (@LE.le Nat _ _ _) _ ?_ ?_); (· (first | exact Nat.zero_le _ | exact Nat.le_of_ble_eq_true rfl | omega)); (conv => whnf))
      | ((with_reducible refine @And.intro (@LT.lt Nat _ _ _) _ ?_ ?_); (· omega); (conv => whnf))
      | ((with_reducible refine @And.intro (∃ _, _ = _) _ ?_ ?_); (· exact ⟨_, rfl⟩); (conv => whnf))
      | ((with_reducible refine @And.intro (_ ∨ _) _ ?_ ?_); (· (first | exact Or.inl rfl | exact Or.inr rfl | exact t_b01 _ | assumption)); (conv => whnf))
      | ((with_reducible refine @And.intro (¬ (_ = _)) _ ?_ ?_); (· first | assumption | (with_reducible assumption)); (conv => whnf))
      | (refine hX _ _ _ _ _ _ ?_; (conv => whnf); fail_if_success show False)
      | (rw [c_si]; (conv => whnf))
      | (refine ⟨_, rfl, ?_⟩; (conv => whnf))
      | (refine ⟨_, _, rfl, ?_⟩; (conv => whnf))
      | (refine ⟨_, _, _, rfl, ?_⟩; (conv => whnf))
      | (refine ⟨_, _, _, _, rfl, ?_⟩; (conv => whnf))
      | (refine And.intro (fun c => ?_) (fun c => ?_) <;> (first | (exact absurd c (by decide +kernel)) | (conv => whnf)))
      | fail)
    exact c_ask hQ hg hJ.sp rfl
  · exact c_ref0 hQ hg e hx n1_0
theorem ct_X1_casts : xm_Ct cI yX1_casts (ws_ yX1_casts cX1_casts 2 (some .int)) 18 1 6 S_X1_casts := xm_enter (rt := 0) (init := false) (by decide +kernel) rfl (fun h => by cases h) (Or.inl ⟨rfl, rfl⟩) (oX1_casts) body_X1_casts
theorem cv_X1_casts {own : String} {cc : ByteArray} {fr pc idx : Nat} (hdg : decode cc pc = .ok (.invokevirtual idx, 3)) (hl : xm_ml own idx yX1_casts) (hfr : 18 < fr) : xm_CallOK cI own cc fr pc (pc + 3) 2 1 6 (xm_this 0 S_X1_casts) := xm_callV 0 cI_good (ct_X1_casts) hdg hl q1730 q1731 q116 q1732 rfl rfl (by decide +kernel) hfr (by decide)
abbrev bX1_cast_0 : List xE := [(.aload_n 0, 1, 0, 0, 0), (.iload_n 1, 2, 0, 0, 0), (.invokevirtual 262, 5, 0, 0, 9), (.aload_n 0, 6, 0, 0, 0), (.iload_n 2, 7, 0, 0, 0), (.invokevirtual 238, 10, 0, 1, 9), (.aload_n 0, 11, 0, 0, 0), (.aload_n 0, 12, 0, 0, 0), (.getfield 58, 15, 0, 5, 1), (.iload_n 1, 16, 0, 0, 0), (.aload_n 0, 17, 0, 0, 0), (.getfield 58, 20, 0, 5, 1), (.invokevirtual 204, 23, 0, 2, 9), (.invokevirtual 307, 26, 0, 3, 9), (.ifCond .ne 5, 29, 0, 31, 0), (.iconst 0, 30, 0, 0, 0), (.ireturn, 31, 0, 0, 0)]
abbrev bX1_cast_31 : List xE := [(.aload_n 0, 32, 0, 0, 0), (.iload_n 1, 33, 0, 0, 0), (.invokevirtual 265, 36, 0, 4, 9), (.astore_n 3, 37, 0, 0, 0), (.iconst 0, 38, 0, 0, 0), (.istore 4, 40, 0, 0, 0)]
abbrev bX1_cast_40 : List xE := [(.iload 4, 42, 0, 0, 0), (.aload_n 3, 43, 0, 0, 0), (.getfield 328, 46, 11, 2, 0), (.if_icmp .ge 28, 49, 0, 74, 0), (.aload_n 3, 50, 0, 0, 0), (.getfield 331, 53, 11, 1, 1), (.iload 4, 55, 0, 0, 0), (.iaload, 56, 0, 0, 0), (.iload_n 2, 57, 0, 0, 0), (.if_icmp .ne 11, 60, 0, 68, 0), (.aload_n 0, 61, 0, 0, 0), (.getfield 86, 64, 0, 18, 1), (.iload 4, 66, 0, 0, 0), (.iaload, 67, 0, 0, 0), (.ireturn, 68, 0, 0, 0)]
abbrev bX1_cast_68 : List xE := [(.iinc 4 1, 71, 0, 0, 0), (.goto (-31), 74, 0, 40, 0)]
abbrev bX1_cast_74 : List xE := [(.iconst 0, 75, 0, 0, 0), (.ireturn, 76, 0, 0, 0)]
abbrev kX1_cast : List (Nat × List xE) := [(0, bX1_cast_0), (31, bX1_cast_31), (40, bX1_cast_40), (68, bX1_cast_68), (74, bX1_cast_74)]
abbrev lX1_cast : List (Nat × Nat × Nat × xS) := [(2, 1, 6, xm_this 0 S_X1_needAct), (2, 1, 6, xm_this 0 S_X1_needPuppet), (1, 0, 0, xm_this 7 S_X10_alive), (4, 0, 0, xm_this 0 S_X1_isCast), (2, 0, 0, xm_this 0 S_X1_actOf)]
theorem oX1_cast_0  : xm_okb cI RX1 cX1_cast false 19 lX1_cast bX1_cast_0 0 := xo_0 dX1_cast_0 rfl trivial (xo_0 dX1_cast_1 rfl trivial (xo_c rfl (cv_X1_needAct dX1_cast_2 (Or.inl q1618) (by decide)) (xo_0 dX1_cast_5 rfl trivial (xo_0 dX1_cast_6 rfl trivial (xo_c rfl (cv_X1_needPuppet dX1_cast_7 (Or.inl q1607) (by decide)) (xo_0 dX1_cast_10 rfl trivial (xo_0 dX1_cast_11 rfl trivial (xo_1 dX1_cast_12 rfl (xm_fg_of (Or.inl q724) (by decide) rfl (by decide) rfl rfl (Or.inl rfl) rfl) (xo_0 dX1_cast_15 rfl trivial (xo_0 dX1_cast_16 rfl trivial (xo_1 dX1_cast_17 rfl (xm_fg_of (Or.inl q724) (by decide) rfl (by decide) rfl rfl (Or.inl rfl) rfl) (xo_c rfl (cv_X10_alive dX1_cast_20 (Or.inl q802) (by decide)) (xo_c rfl (cv_X1_isCast dX1_cast_23 (Or.inl q814) (by decide)) (xo_0 dX1_cast_26 rfl rfl (xo_0 dX1_cast_29 rfl trivial (xo_0 dX1_cast_30 rfl trivial (xo_n)))))))))))))))))
theorem oX1_cast_31  : xm_okb cI RX1 cX1_cast false 19 lX1_cast bX1_cast_31 31 := xo_0 dX1_cast_31 rfl trivial (xo_0 dX1_cast_32 rfl trivial (xo_c rfl (cv_X1_actOf dX1_cast_33 (Or.inl q822) (by decide)) (xo_0 dX1_cast_36 rfl trivial (xo_0 dX1_cast_37 rfl trivial (xo_0 dX1_cast_38 rfl trivial (xo_n))))))
theorem oX1_cast_40  : xm_okb cI RX1 cX1_cast false 19 lX1_cast bX1_cast_40 40 := xo_0 dX1_cast_40 rfl trivial (xo_0 dX1_cast_42 rfl trivial (xo_0 dX1_cast_43 rfl (xm_fg_of (Or.inr ⟨_, q1307⟩) (by decide) rfl (by decide) rfl rfl (Or.inl rfl) rfl) (xo_0 dX1_cast_46 rfl rfl (xo_0 dX1_cast_49 rfl trivial (xo_1 dX1_cast_50 rfl (xm_fg_of (Or.inr ⟨_, q1304⟩) (by decide) rfl (by decide) rfl rfl (Or.inl rfl) rfl) (xo_0 dX1_cast_53 rfl trivial (xo_0 dX1_cast_55 rfl trivial (xo_0 dX1_cast_56 rfl trivial (xo_0 dX1_cast_57 rfl rfl (xo_0 dX1_cast_60 rfl trivial (xo_1 dX1_cast_61 rfl (xm_fg_of (Or.inl q737) (by decide) rfl (by decide) rfl rfl (Or.inl rfl) rfl) (xo_0 dX1_cast_64 rfl trivial (xo_0 dX1_cast_66 rfl trivial (xo_0 dX1_cast_67 rfl trivial (xo_n)))))))))))))))
theorem oX1_cast_68  : xm_okb cI RX1 cX1_cast false 19 lX1_cast bX1_cast_68 68 := xo_0 dX1_cast_68 rfl trivial (xo_0 dX1_cast_71 rfl rfl (xo_n))
theorem oX1_cast_74  : xm_okb cI RX1 cX1_cast false 19 lX1_cast bX1_cast_74 74 := xo_0 dX1_cast_74 rfl trivial (xo_0 dX1_cast_75 rfl trivial (xo_n))
theorem oX1_cast  : ∀ q ∈ kX1_cast, xm_okb cI RX1 cX1_cast false 19 lX1_cast q.2 q.1 := by
  intro q hq
  simp only [List.mem_cons, List.not_mem_nil, or_false] at hq
  rcases hq with rfl | rfl | rfl | rfl | rfl
  · exact oX1_cast_0  
  · exact oX1_cast_31  
  · exact oX1_cast_40  
  · exact oX1_cast_68  
  · exact oX1_cast_74  
def S_X1_cast : xS := cU fun as P Z I Q QX => ∃ a b L, as = [.ref 0, .int a, .int b] ∧ c_good P Z I L ∧ g_ok (cG P I L) ∧ c_P P Z L (cG P I L) Q QX (q_cast (cG P I L) a b)
theorem body_X1_cast : xm_Body 5 0 2 12 [] lX1_cast kX1_cast S_X1_cast := by
  intro X avs w Q QX hX0 hS
  have hG := xm_go [] hX0
  have hX := xm_go [40] hX0
  clear hX0
  obtain ⟨P, Z, I, rfl, a, b, L, rfl, hg, hk0, hQ⟩ := hS
  have hok := hg.ok
  obtain ⟨hn, h9, hm, h8⟩ := id hok
  have h5 := c_5 (P := P)
  have hi := hg.now.2.2.1
  have hl := hg.ls
  obtain ⟨h6, hs, hc, hc2⟩ := id hl
  refine ⟨rfl, ?_⟩
  repeat' (first
    | ((with_reducible refine @And.intro (vp_in _ _) _ ?_ ?_); (· (first | with_reducible assumption | ((with_reducible refine t_vin ?_); decide) | ((with_reducible refine vp_in_nI ?_ ?_) <;> first | omega | decide) | (simp (disch := omega) only [xl_n, xl_m, nI_dec, nI_sb, nI_add, pk_mul]; (with_reducible refine vp_in_nI ?_ ?_) <;> first | omega | decide))); (conv => whnf))
    | (refine And.intro (by first | with_reducible assumption | exact (show cL _ _ = _ from rfl) | decide) ?_; (conv => whnf))
    | ((with_reducible refine @And.intro (_ = _) _ ?_ ?_); (· rfl); (conv => whnf))
    | ((with_reducible refine @And.intro (@LE.le Nat _ _ _) _ ?_ ?_); (· (first | exact Nat.zero_le _ | exact Nat.le_of_ble_eq_true rfl | omega)); (conv => whnf))
    | ((with_reducible refine @And.intro (@LT.lt Nat _ _ _) _ ?_ ?_); (· omega); (conv => whnf))
    | ((with_reducible refine @And.intro (∃ _, _ = _) _ ?_ ?_); (· exact ⟨_, rfl⟩); (conv => whnf))
    | ((with_reducible refine @And.intro (_ ∨ _) _ ?_ ?_); (· (first | exact Or.inl rfl | exact Or.inr rfl | exact t_b01 _ | assumption)); (conv => whnf))
    | ((with_reducible refine @And.intro (¬ (_ = _)) _ ?_ ?_); (· first | assumption | (with_reducible assumption)); (conv => whnf))
    | (refine hX _ _ _ _ _ _ ?_; (conv => whnf); fail_if_success show False)
    | (rw [c_si]; (conv => whnf))
    | (refine ⟨_, rfl, ?_⟩; (conv => whnf))
    | (refine ⟨_, _, rfl, ?_⟩; (conv => whnf))
    | (refine ⟨_, _, _, rfl, ?_⟩; (conv => whnf))
    | (refine ⟨_, _, _, _, rfl, ?_⟩; (conv => whnf))
    | (refine ⟨a,rfl,hs,h6,?_⟩; (conv => whnf))
    | fail)
  refine ⟨fun e => ?_, fun e x hx => ?_⟩
  · obtain ⟨a, ha, rfl⟩ := t_in_of (by omega) e
    have f : g_isA (cG P I L) (nI a) = true := e
    (conv => whnf)
    repeat' (first
      | ((with_reducible refine @And.intro (vp_in _ _) _ ?_ ?_); (· (first | with_reducible assumption | ((with_reducible refine t_vin ?_); decide) | ((with_reducible refine vp_in_nI ?_ ?_) <;> first | omega | decide) | (simp (disch := omega) only [xl_n, xl_m, nI_dec, nI_sb, nI_add, pk_mul]; (with_reducible refine vp_in_nI ?_ ?_) <;> first | omega | decide))); (conv => whnf))
      | (refine And.intro (by first | with_reducible assumption | exact (show cL _ _ = _ from rfl) | decide) ?_; (conv => whnf))
      | ((with_reducible refine @And.intro (_ = _) _ ?_ ?_); (· rfl); (conv => whnf))
      | ((with_reducible refine @And.intro (@LE.le Nat _ _ _) _ ?_ ?_); (· (first | exact Nat.zero_le _ | exact Nat.le_of_ble_eq_true rfl | omega)); (conv => whnf))
      | ((with_reducible refine @And.intro (@LT.lt Nat _ _ _) _ ?_ ?_); (· omega); (conv => whnf))
      | ((with_reducible refine @And.intro (∃ _, _ = _) _ ?_ ?_); (· exact ⟨_, rfl⟩); (conv => whnf))
      | ((with_reducible refine @And.intro (_ ∨ _) _ ?_ ?_); (· (first | exact Or.inl rfl | exact Or.inr rfl | exact t_b01 _ | assumption)); (conv => whnf))
      | ((with_reducible refine @And.intro (¬ (_ = _)) _ ?_ ?_); (· first | assumption | (with_reducible assumption)); (conv => whnf))
      | (refine hX _ _ _ _ _ _ ?_; (conv => whnf); fail_if_success show False)
      | (rw [c_si]; (conv => whnf))
      | (refine ⟨_, rfl, ?_⟩; (conv => whnf))
      | (refine ⟨_, _, rfl, ?_⟩; (conv => whnf))
      | (refine ⟨_, _, _, rfl, ?_⟩; (conv => whnf))
      | (refine ⟨_, _, _, _, rfl, ?_⟩; (conv => whnf))
      | (refine ⟨b,rfl,hok,?_⟩; (conv => whnf))
      | fail)
    refine ⟨fun e2 => ?_, fun e2 x hx => ?_⟩
    · obtain ⟨p, hp, rfl⟩ := t_in_of (by omega) e2
      have f2 : g_isP (cG P I L) (nI p) = true := e2
      rw [q_cast, f, f2, Bool.and_true, g_ck_t, nI_clamp (by omega), nI_clamp (by omega)] at hQ
      (conv => whnf)
      repeat' (first
        | ((with_reducible refine @And.intro (vp_in _ _) _ ?_ ?_); (· (first | with_reducible assumption | ((with_reducible refine t_vin ?_); decide) | ((with_reducible refine vp_in_nI ?_ ?_) <;> first | omega | decide) | (simp (disch := omega) only [xl_n, xl_m, nI_dec, nI_sb, nI_add, pk_mul]; (with_reducible refine vp_in_nI ?_ ?_) <;> first | omega | decide))); (conv => whnf))
        | (refine And.intro (by first | with_reducible assumption | exact (show cL _ _ = _ from rfl) | decide) ?_; (conv => whnf))
        | ((with_reducible refine @And.intro (_ = _) _ ?_ ?_); (· rfl); (conv => whnf))
        | ((with_reducible refine @And.intro (@LE.le Nat _ _ _) _ ?_ ?_); (· (first | exact Nat.zero_le _ | exact Nat.le_of_ble_eq_true rfl | omega)); (conv => whnf))
        | ((with_reducible refine @And.intro (@LT.lt Nat _ _ _) _ ?_ ?_); (· omega); (conv => whnf))
        | ((with_reducible refine @And.intro (∃ _, _ = _) _ ?_ ?_); (· exact ⟨_, rfl⟩); (conv => whnf))
        | ((with_reducible refine @And.intro (_ ∨ _) _ ?_ ?_); (· (first | exact Or.inl rfl | exact Or.inr rfl | exact t_b01 _ | assumption)); (conv => whnf))
        | ((with_reducible refine @And.intro (¬ (_ = _)) _ ?_ ?_); (· first | assumption | (with_reducible assumption)); (conv => whnf))
        | (refine hX _ _ _ _ _ _ ?_; (conv => whnf); fail_if_success show False)
        | (rw [c_si]; (conv => whnf))
        | (refine ⟨_, rfl, ?_⟩; (conv => whnf))
        | (refine ⟨_, _, rfl, ?_⟩; (conv => whnf))
        | (refine ⟨_, _, _, rfl, ?_⟩; (conv => whnf))
        | (refine ⟨_, _, _, _, rfl, ?_⟩; (conv => whnf))
        | (refine ⟨5,rfl,h5,hok,hi,?_⟩; (conv => whnf))
        | (refine And.intro (fun c => ?_) (fun c => ?_) <;> (first | (exact absurd c (by decide +kernel)) | (conv => whnf)))
        | fail)
      refine ⟨5, a, L, _, rfl, h5, hg, hk0, ha, c_al_a h9, fun J hJ hF => ?_⟩
      rw [c_al (L := L) hi] at hF ⊢
      have hF : ¬ g_nowc (cG P I L) a = [] → ∀ k, k < gmany (cG P I L) a → J 18 k = g_first (g_nowc (cG P I L) a) k := hF
      have hl2 : c_ls P J := (hJ.sp.good hg).ls
      obtain ⟨a2, a6, -, -⟩ := hg.2.2.2.1 a ha
      have fJ : ∀ b : Nat, b ≠ 17 → b ≠ 18 → b ≠ 0 → J b = I b := hJ.1
      have loop : ¬ g_nowc (cG P I L) a = [] → ∀ k, k ≤ gmany (cG P I L) a → (∀ j q l, j < k → (g_act (cG P I L) a)[j]? = some (q, l) → ¬ q = p) → X 40 [some (.ref 0), some (.int (nI a)), some (.int (nI p)), some (.ref (80 + a)), some (.int (nI k))] [] (cW P Z J) 0 0 := by
        intro hne
        rw [if_neg hne] at hQ
        have hlen : (g_act (cG P I L) a).length = ((g_nowc (cG P I L) a).headD []).length := g_casts_len hne
        refine t_for fun k h1 ih hno => ?_
        by_cases hk : k = gmany (cG P I L) a
        · subst hk
          have d1 : J (80 + a) 2 ≤ nI (gmany (cG P I L) a) := by
            rw [fJ _ (by omega) (by omega) (by omega), a2]
            exact Int32.le_refl _
          clear ih
          refine hG _ _ _ _ _ _ ?_
          (conv => whnf)
          repeat' (first
            | ((with_reducible refine @And.intro (vp_in _ _) _ ?_ ?_); (· (first | with_reducible assumption | ((with_reducible refine t_vin ?_); decide) | ((with_reducible refine vp_in_nI ?_ ?_) <;> first | omega | decide) | (simp (disch := omega) only [xl_n, xl_m, nI_dec, nI_sb, nI_add, pk_mul]; (with_reducible refine vp_in_nI ?_ ?_) <;> first | omega | decide))); (conv => whnf))
            | (refine And.intro (by first | with_reducible assumption | exact (show cL _ _ = _ from rfl) | decide) ?_; (conv => whnf))
            | ((with_reducible refine @And.intro (_ = _) _ ?_ ?_); (· rfl); (conv => whnf))
            | ((with_reducible refine @And.intro (@LE.le Nat _ _ _) _ ?_ ?_); (· (first | exact Nat.zero_le _ | exact Nat.le_of_ble_eq_true rfl | omega)); (conv => whnf))
            | ((with_reducible refine @And.intro (@LT.lt Nat _ _ _) _ ?_ ?_); (· omega); (conv => whnf))
            | ((with_reducible refine @And.intro (∃ _, _ = _) _ ?_ ?_); (· exact ⟨_, rfl⟩); (conv => whnf))
            | ((with_reducible refine @And.intro (_ ∨ _) _ ?_ ?_); (· (first | exact Or.inl rfl | exact Or.inr rfl | exact t_b01 _ | assumption)); (conv => whnf))
            | ((with_reducible refine @And.intro (¬ (_ = _)) _ ?_ ?_); (· first | assumption | (with_reducible assumption)); (conv => whnf))
            | (refine hX _ _ _ _ _ _ ?_; (conv => whnf); fail_if_success show False)
            | (rw [c_si]; (conv => whnf))
            | (refine ⟨_, rfl, ?_⟩; (conv => whnf))
            | (refine ⟨_, _, rfl, ?_⟩; (conv => whnf))
            | (refine ⟨_, _, _, rfl, ?_⟩; (conv => whnf))
            | (refine ⟨_, _, _, _, rfl, ?_⟩; (conv => whnf))
            | (rw [c_ac ha h6]; (conv => whnf))
            | (refine And.intro (fun c => ?_) (fun c => ?_) <;> (first | (exact absurd c (by decide +kernel)) | (exact absurd c (by assumption)) | (exact False.elim (c (by assumption))) | (conv => whnf)))
            | fail)
          refine c_ask hQ hg hJ.sp (xl_n.1.trans (g_pick_0 hlen fun j q l hj hq => ?_).symm)
          rw [g_act_len] at hj
          exact hno j q l hj hq
        · have hk2 : k < gmany (cG P I L) a := by omega
          have hk3 : k < c_am P I a := hk2
          have d1 : ¬ J (80 + a) 2 ≤ nI k := by
            rw [fJ _ (by omega) (by omega) (by omega), a2, nI_leI (by omega) (by omega)]
            omega
          obtain ⟨hp2, e90⟩ := c_pup hg ha hk2
          have hat := g_act_at hk2
          have e90' : J (90 + a) (nI k).toNatClampNeg = nI (gpup (cG P I L) a k) := by
            rw [nI_clamp (by omega), fJ _ (by omega) (by omega) (by omega), e90]
          have nx := ih (k + 1) (by omega) (by omega)
          clear ih
          by_cases q : gpup (cG P I L) a k = p
          · have d2 : J (90 + a) (nI k).toNatClampNeg = nI p := by rw [e90', q]
            rw [q] at hat
            refine hG _ _ _ _ _ _ ?_
            (conv => whnf)
            repeat' (first
              | ((with_reducible refine @And.intro (vp_in _ _) _ ?_ ?_); (· (first | with_reducible assumption | ((with_reducible refine t_vin ?_); decide) | ((with_reducible refine vp_in_nI ?_ ?_) <;> first | omega | decide) | (simp (disch := omega) only [xl_n, xl_m, nI_dec, nI_sb, nI_add, pk_mul]; (with_reducible refine vp_in_nI ?_ ?_) <;> first | omega | decide))); (conv => whnf))
              | (refine And.intro (by first | with_reducible assumption | exact (show cL _ _ = _ from rfl) | decide) ?_; (conv => whnf))
              | ((with_reducible refine @And.intro (_ = _) _ ?_ ?_); (· rfl); (conv => whnf))
              | ((with_reducible refine @And.intro (@LE.le Nat _ _ _) _ ?_ ?_); (· (first | exact Nat.zero_le _ | exact Nat.le_of_ble_eq_true rfl | omega)); (conv => whnf))
              | ((with_reducible refine @And.intro (@LT.lt Nat _ _ _) _ ?_ ?_); (· omega); (conv => whnf))
              | ((with_reducible refine @And.intro (∃ _, _ = _) _ ?_ ?_); (· exact ⟨_, rfl⟩); (conv => whnf))
              | ((with_reducible refine @And.intro (_ ∨ _) _ ?_ ?_); (· (first | exact Or.inl rfl | exact Or.inr rfl | exact t_b01 _ | assumption)); (conv => whnf))
              | ((with_reducible refine @And.intro (¬ (_ = _)) _ ?_ ?_); (· first | assumption | (with_reducible assumption)); (conv => whnf))
              | (refine hX _ _ _ _ _ _ ?_; (conv => whnf); fail_if_success show False)
              | (rw [c_si]; (conv => whnf))
              | (refine ⟨_, rfl, ?_⟩; (conv => whnf))
              | (refine ⟨_, _, rfl, ?_⟩; (conv => whnf))
              | (refine ⟨_, _, _, rfl, ?_⟩; (conv => whnf))
              | (refine ⟨_, _, _, _, rfl, ?_⟩; (conv => whnf))
              | (rw [c_ac ha h6]; (conv => whnf))
              | (rw [c_af ha h6]; (conv => whnf))
              | (rw [c_av ha h6]; (conv => whnf))
              | (refine And.intro (fun c => ?_) (fun c => ?_) <;> (first | (exact absurd c (by decide +kernel)) | (exact absurd c (by assumption)) | (exact False.elim (c (by assumption))) | (conv => whnf)))
              | fail)
            refine c_ask hQ hg hJ.sp ?_
            show J 18 (nI k).toNatClampNeg = _
            rw [nI_clamp (by omega), hF hne k hk2, g_pick_k hlen hno hat]
            rfl
          · have d2 : ¬ J (90 + a) (nI k).toNatClampNeg = nI p := by
              rw [e90', nI_eq (by omega) (by omega)]
              exact q
            have nx := nx (fun j q' l hj hq => by
              by_cases e : j = k
              · subst e
                rw [hat] at hq
                cases hq
                exact q
              · exact hno j q' l (by omega) hq)
            clear hQ
            refine hG _ _ _ _ _ _ ?_
            (conv => whnf)
            repeat' (first
              | ((with_reducible refine @And.intro (vp_in _ _) _ ?_ ?_); (· (first | with_reducible assumption | ((with_reducible refine t_vin ?_); decide) | ((with_reducible refine vp_in_nI ?_ ?_) <;> first | omega | decide) | (simp (disch := omega) only [xl_n, xl_m, nI_dec, nI_sb, nI_add, pk_mul]; (with_reducible refine vp_in_nI ?_ ?_) <;> first | omega | decide))); (conv => whnf))
              | (refine And.intro (by first | with_reducible assumption | exact (show cL _ _ = _ from rfl) | decide) ?_; (conv => whnf))
              | ((with_reducible refine @And.intro (_ = _) _ ?_ ?_); (· rfl); (conv => whnf))
              | ((with_reducible refine @And.intro (@LE.le Nat _ _ _) _ ?_ ?_); (· (first | exact Nat.zero_le _ | exact Nat.le_of_ble_eq_true rfl | omega)); (conv => whnf))
              | ((with_reducible refine @And.intro (@LT.lt Nat _ _ _) _ ?_ ?_); (· omega); (conv => whnf))
              | ((with_reducible refine @And.intro (∃ _, _ = _) _ ?_ ?_); (· exact ⟨_, rfl⟩); (conv => whnf))
              | ((with_reducible refine @And.intro (_ ∨ _) _ ?_ ?_); (· (first | exact Or.inl rfl | exact Or.inr rfl | exact t_b01 _ | assumption)); (conv => whnf))
              | ((with_reducible refine @And.intro (¬ (_ = _)) _ ?_ ?_); (· first | assumption | (with_reducible assumption)); (conv => whnf))
              | (refine hX _ _ _ _ _ _ ?_; (conv => whnf); fail_if_success show False)
              | (rw [c_si]; (conv => whnf))
              | (refine ⟨_, rfl, ?_⟩; (conv => whnf))
              | (refine ⟨_, _, rfl, ?_⟩; (conv => whnf))
              | (refine ⟨_, _, _, rfl, ?_⟩; (conv => whnf))
              | (refine ⟨_, _, _, _, rfl, ?_⟩; (conv => whnf))
              | (rw [c_ac ha h6]; (conv => whnf))
              | (rw [c_af ha h6]; (conv => whnf))
              | (rw [c_av ha h6]; (conv => whnf))
              | (refine And.intro (fun c => ?_) (fun c => ?_) <;> (first | (exact absurd c (by decide +kernel)) | (exact absurd c (by assumption)) | (exact False.elim (c (by assumption))) | (conv => whnf)))
              | fail)
            clear hX hG
            simp (disch := omega) only [xl_n, xl_m, nI_dec, nI_sb, xl_0, xl_1, cW_i, Nat.add_zero, Nat.reduceAdd, Nat.reduceMul, t_bn0, t_bn1, Classical.not_not, t_lt, nI_add, nI_1, pk_mul, nI_clamp, c_si, nI_eq, nI_leI, nM_ne, nM_ne, xm_set, xm_lv0, xm_psh] at *
            exact nx
      cases en : g_is (g_casts (cG P I L) (cA I 5) (g_alive (cK I L) (cA I 5)) a) with
      | false =>
        have e0 : g_nowc (cG P I L) a = [] := g_is_f.mp en
        rw [if_pos e0] at hQ
        have d1 : t_b false = 0 := rfl
        clear loop
        (conv => whnf)
        repeat' (first
          | ((with_reducible refine @And.intro (vp_in _ _) _ ?_ ?_); (· (first | with_reducible assumption | ((with_reducible refine t_vin ?_); decide) | ((with_reducible refine vp_in_nI ?_ ?_) <;> first | omega | decide) | (simp (disch := omega) only [xl_n, xl_m, nI_dec, nI_sb, nI_add, pk_mul]; (with_reducible refine vp_in_nI ?_ ?_) <;> first | omega | decide))); (conv => whnf))
          | (refine And.intro (by first | with_reducible assumption | exact (show cL _ _ = _ from rfl) | decide) ?_; (conv => whnf))
          | ((with_reducible refine @And.intro (_ = _) _ ?_ ?_); (· rfl); (conv => whnf))
          | ((with_reducible refine @And.intro (@LE.le Nat _ _ _) _ ?_ ?_); (· (first | exact Nat.zero_le _ | exact Nat.le_of_ble_eq_true rfl | omega)); (conv => whnf))
          | ((with_reducible refine @And.intro (@LT.lt Nat _ _ _) _ ?_ ?_); (· omega); (conv => whnf))
          | ((with_reducible refine @And.intro (∃ _, _ = _) _ ?_ ?_); (· exact ⟨_, rfl⟩); (conv => whnf))
          | ((with_reducible refine @And.intro (_ ∨ _) _ ?_ ?_); (· (first | exact Or.inl rfl | exact Or.inr rfl | exact t_b01 _ | assumption)); (conv => whnf))
          | ((with_reducible refine @And.intro (¬ (_ = _)) _ ?_ ?_); (· first | assumption | (with_reducible assumption)); (conv => whnf))
          | (refine hX _ _ _ _ _ _ ?_; (conv => whnf); fail_if_success show False)
          | (rw [c_si]; (conv => whnf))
          | (refine ⟨_, rfl, ?_⟩; (conv => whnf))
          | (refine ⟨_, _, rfl, ?_⟩; (conv => whnf))
          | (refine ⟨_, _, _, rfl, ?_⟩; (conv => whnf))
          | (refine ⟨_, _, _, _, rfl, ?_⟩; (conv => whnf))
          | (refine And.intro (fun c => ?_) (fun c => ?_) <;> (first | (exact absurd c (by decide +kernel)) | (exact absurd c (by assumption)) | (exact False.elim (c (by assumption))) | (conv => whnf)))
          | fail)
        exact c_ask hQ hg hJ.sp xl_n.1
      | true =>
        have e0 : ¬ g_nowc (cG P I L) a = [] := g_is_t.mp en
        have d1 : ¬ t_b true = 0 := by decide +kernel
        have fin := loop e0 0 (Nat.zero_le _) (fun j q l h => by omega)
        clear loop
        (conv => whnf)
        repeat' (first
          | ((with_reducible refine @And.intro (vp_in _ _) _ ?_ ?_); (· (first | with_reducible assumption | ((with_reducible refine t_vin ?_); decide) | ((with_reducible refine vp_in_nI ?_ ?_) <;> first | omega | decide) | (simp (disch := omega) only [xl_n, xl_m, nI_dec, nI_sb, nI_add, pk_mul]; (with_reducible refine vp_in_nI ?_ ?_) <;> first | omega | decide))); (conv => whnf))
          | (refine And.intro (by first | with_reducible assumption | exact (show cL _ _ = _ from rfl) | decide) ?_; (conv => whnf))
          | ((with_reducible refine @And.intro (_ = _) _ ?_ ?_); (· rfl); (conv => whnf))
          | ((with_reducible refine @And.intro (@LE.le Nat _ _ _) _ ?_ ?_); (· (first | exact Nat.zero_le _ | exact Nat.le_of_ble_eq_true rfl | omega)); (conv => whnf))
          | ((with_reducible refine @And.intro (@LT.lt Nat _ _ _) _ ?_ ?_); (· omega); (conv => whnf))
          | ((with_reducible refine @And.intro (∃ _, _ = _) _ ?_ ?_); (· exact ⟨_, rfl⟩); (conv => whnf))
          | ((with_reducible refine @And.intro (_ ∨ _) _ ?_ ?_); (· (first | exact Or.inl rfl | exact Or.inr rfl | exact t_b01 _ | assumption)); (conv => whnf))
          | ((with_reducible refine @And.intro (¬ (_ = _)) _ ?_ ?_); (· first | assumption | (with_reducible assumption)); (conv => whnf))
          | (refine hX _ _ _ _ _ _ ?_; (conv => whnf); fail_if_success show False)
          | (rw [c_si]; (conv => whnf))
          | (refine ⟨_, rfl, ?_⟩; (conv => whnf))
          | (refine ⟨_, _, rfl, ?_⟩; (conv => whnf))
          | (refine ⟨_, _, _, rfl, ?_⟩; (conv => whnf))
          | (refine ⟨_, _, _, _, rfl, ?_⟩; (conv => whnf))
          | (refine ⟨a,rfl,ha,hl2,?_⟩; (conv => whnf))
          | (refine And.intro (fun c => ?_) (fun c => ?_) <;> (first | (exact absurd c (by decide +kernel)) | (exact absurd c (by assumption)) | (exact False.elim (c (by assumption))) | (conv => whnf)))
          | fail)
        exact fin
    · refine c_ref0 hQ hg ?_ hx n1_0
      rw [f, Bool.true_and]
      exact e2
  · refine c_ref0 hQ hg ?_ hx n1_0
    rw [show g_isA (cG P I L) a = false from e]
    rfl
theorem ct_X1_cast : xm_Ct cI yX1_cast (ws_ yX1_cast cX1_cast 5 (some .int)) 19 2 12 S_X1_cast := xm_enter (rt := 0) (init := false) (by decide +kernel) rfl (fun h => by cases h) (Or.inl ⟨rfl, rfl⟩) (oX1_cast) body_X1_cast
theorem cv_X1_cast {own : String} {cc : ByteArray} {fr pc idx : Nat} (hdg : decode cc pc = .ok (.invokevirtual idx, 3)) (hl : xm_ml own idx yX1_cast) (hfr : 19 < fr) : xm_CallOK cI own cc fr pc (pc + 3) 3 2 12 (xm_this 0 S_X1_cast) := xm_callV 0 cI_good (ct_X1_cast) hdg hl q1738 q1739 q116 q1740 rfl rfl (by decide +kernel) hfr (by decide)
abbrev bX1_playedBy_0 : List xE := [(.iconst 0, 1, 0, 0, 0), (.istore_n 3, 2, 0, 0, 0), (.iconst 0, 3, 0, 0, 0), (.istore 4, 5, 0, 0, 0)]
abbrev bX1_playedBy_5 : List xE := [(.iload 4, 7, 0, 0, 0), (.aload_n 0, 8, 0, 0, 0), (.getfield 31, 11, 0, 0, 1), (.getfield 136, 14, 1, 10, 1), (.invokevirtual 140, 17, 0, 0, 9), (.if_icmp .ge 31, 20, 0, 48, 0), (.iload_n 3, 21, 0, 0, 0), (.aload_n 0, 22, 0, 0, 0), (.aload_n 1, 23, 0, 0, 0), (.iload 4, 25, 0, 0, 0), (.iload_n 2, 26, 0, 0, 0), (.invokevirtual 307, 29, 0, 1, 9), (.ifCond .eq 10, 32, 0, 39, 0), (.iconst 1, 33, 0, 0, 0), (.iload 4, 35, 0, 0, 0), (.ishl, 36, 0, 0, 0), (.goto 4, 39, 0, 40, 0)]
abbrev bX1_playedBy_39 : List xE := [(.iconst 0, 40, 0, 0, 0)]
abbrev bX1_playedBy_40 : List xE := [(.ior, 41, 0, 0, 0), (.istore_n 3, 42, 0, 0, 0), (.iinc 4 1, 45, 0, 0, 0), (.goto (-40), 48, 0, 5, 0)]
abbrev bX1_playedBy_48 : List xE := [(.iload_n 3, 49, 0, 0, 0), (.ireturn, 50, 0, 0, 0)]
abbrev kX1_playedBy : List (Nat × List xE) := [(0, bX1_playedBy_0), (5, bX1_playedBy_5), (39, bX1_playedBy_39), (40, bX1_playedBy_40), (48, bX1_playedBy_48)]
abbrev lX1_playedBy : List (Nat × Nat × Nat × xS) := [(1, 0, 0, xm_this 18 S_J2_size), (4, 0, 0, xm_this 0 S_X1_isCast)]
theorem oX1_playedBy_0  : xm_okb cI RX1 cX1_playedBy false 19 lX1_playedBy bX1_playedBy_0 0 := xo_0 dX1_playedBy_0 rfl trivial (xo_0 dX1_playedBy_1 rfl trivial (xo_0 dX1_playedBy_2 rfl trivial (xo_0 dX1_playedBy_3 rfl trivial (xo_n))))
theorem oX1_playedBy_5  : xm_okb cI RX1 cX1_playedBy false 19 lX1_playedBy bX1_playedBy_5 5 := xo_0 dX1_playedBy_5 rfl trivial (xo_0 dX1_playedBy_7 rfl trivial (xo_1 dX1_playedBy_8 rfl (xm_fg_of (Or.inl q716) (by decide) rfl (by decide) rfl rfl (Or.inl rfl) rfl) (xo_1 dX1_playedBy_11 rfl (xm_fg_of (Or.inr ⟨_, q552⟩) (by decide) rfl (by decide) rfl rfl (Or.inl rfl) rfl) (xo_c rfl (cv_J2_size dX1_playedBy_14 (Or.inl q810) (by decide)) (xo_0 dX1_playedBy_17 rfl rfl (xo_0 dX1_playedBy_20 rfl trivial (xo_0 dX1_playedBy_21 rfl trivial (xo_0 dX1_playedBy_22 rfl trivial (xo_0 dX1_playedBy_23 rfl trivial (xo_0 dX1_playedBy_25 rfl trivial (xo_c rfl (cv_X1_isCast dX1_playedBy_26 (Or.inl q814) (by decide)) (xo_0 dX1_playedBy_29 rfl rfl (xo_0 dX1_playedBy_32 rfl trivial (xo_0 dX1_playedBy_33 rfl trivial (xo_0 dX1_playedBy_35 rfl trivial (xo_0 dX1_playedBy_36 rfl rfl (xo_n)))))))))))))))))
theorem oX1_playedBy_39  : xm_okb cI RX1 cX1_playedBy false 19 lX1_playedBy bX1_playedBy_39 39 := xo_0 dX1_playedBy_39 rfl trivial (xo_n)
theorem oX1_playedBy_40  : xm_okb cI RX1 cX1_playedBy false 19 lX1_playedBy bX1_playedBy_40 40 := xo_0 dX1_playedBy_40 rfl trivial (xo_0 dX1_playedBy_41 rfl trivial (xo_0 dX1_playedBy_42 rfl trivial (xo_0 dX1_playedBy_45 rfl rfl (xo_n))))
theorem oX1_playedBy_48  : xm_okb cI RX1 cX1_playedBy false 19 lX1_playedBy bX1_playedBy_48 48 := xo_0 dX1_playedBy_48 rfl trivial (xo_0 dX1_playedBy_49 rfl trivial (xo_n))
theorem oX1_playedBy  : ∀ q ∈ kX1_playedBy, xm_okb cI RX1 cX1_playedBy false 19 lX1_playedBy q.2 q.1 := by
  intro q hq
  simp only [List.mem_cons, List.not_mem_nil, or_false] at hq
  rcases hq with rfl | rfl | rfl | rfl | rfl
  · exact oX1_playedBy_0  
  · exact oX1_playedBy_5  
  · exact oX1_playedBy_39  
  · exact oX1_playedBy_40  
  · exact oX1_playedBy_48  
def S_X1_playedBy : xS := cU fun as P Z I Q QX => ∃ (r : Nat) (L : List lC) (al : Int32), as = [.ref 0, .ref r, .int al] ∧ c_tr P r ∧ c_good P Z I L ∧ g_ok (cG P I L) ∧ (∀ k, k < 32 → t_has al k = true → k < c_h I) ∧ ∀ J, c_cf I J → Q (some (.int (t_or P.1 fun a => g_is (g_casts (cG P I L) (cA I r) al a)))) J
theorem body_X1_playedBy : xm_Body 5 0 0 0 [] lX1_playedBy kX1_playedBy S_X1_playedBy := by
  intro X avs w Q QX hX0 hS
  have hG := xm_go [] hX0
  have hX := xm_go [5] hX0
  clear hX0
  obtain ⟨P, Z, I, rfl, r, L, al, rfl, hr, hg, hk0, hal, hQ⟩ := hS
  have hrn := hr.ne
  have loop : ∀ k, k ≤ P.1 → ∀ M, c_cf I M → X 5 [some (.ref 0), some (.ref r), some (.int al), some (.int (t_or k fun a => g_is (g_casts (cG P I L) (cA I r) al a))), some (.int (nI k))] [] (cW P Z M) 0 0 := by
    refine t_for fun k h1 ih M hM => ?_
    have hgM := hM.sp.good hg
    have eG := hM.sp.G hg
    have hkM : g_ok (cG P M L) := by rw [eG]; exact hk0
    obtain ⟨h6, hs, hc, hc2⟩ := hgM.ls
    have halM : ∀ k, k < 32 → t_has al k = true → k < c_h M := by rw [hM.sp.kp.hp.1]; exact hal
    refine hG _ _ _ _ _ _ ?_
    (conv => whnf)
    repeat' (first
      | ((with_reducible refine @And.intro (vp_in _ _) _ ?_ ?_); (· (first | with_reducible assumption | ((with_reducible refine t_vin ?_); decide) | ((with_reducible refine vp_in_nI ?_ ?_) <;> first | omega | decide) | (simp (disch := omega) only [xl_n, xl_m, nI_dec, nI_sb, nI_add, pk_mul]; (with_reducible refine vp_in_nI ?_ ?_) <;> first | omega | decide))); (conv => whnf))
      | (refine And.intro (by first | with_reducible assumption | exact (show cL _ _ = _ from rfl) | decide) ?_; (conv => whnf))
      | ((with_reducible refine @And.intro (_ = _) _ ?_ ?_); (· rfl); (conv => whnf))
      | ((with_reducible refine @And.intro (@LE.le Nat _ _ _) _ ?_ ?_); (· (first | exact Nat.zero_le _ | exact Nat.le_of_ble_eq_true rfl | omega)); (conv => whnf))
      | ((with_reducible refine @And.intro (@LT.lt Nat _ _ _) _ ?_ ?_); (· omega); (conv => whnf))
      | ((with_reducible refine @And.intro (∃ _, _ = _) _ ?_ ?_); (· exact ⟨_, rfl⟩); (conv => whnf))
      | ((with_reducible refine @And.intro (_ ∨ _) _ ?_ ?_); (· (first | exact Or.inl rfl | exact Or.inr rfl | exact t_b01 _ | assumption)); (conv => whnf))
      | ((with_reducible refine @And.intro (¬ (_ = _)) _ ?_ ?_); (· first | assumption | (with_reducible assumption)); (conv => whnf))
      | (refine hX _ _ _ _ _ _ ?_; (conv => whnf); fail_if_success show False)
      | (rw [c_si]; (conv => whnf))
      | (refine ⟨_, rfl, ?_⟩; (conv => whnf))
      | (refine ⟨_, _, rfl, ?_⟩; (conv => whnf))
      | (refine ⟨_, _, _, rfl, ?_⟩; (conv => whnf))
      | (refine ⟨_, _, _, _, rfl, ?_⟩; (conv => whnf))
      | fail)
    refine And.intro (fun c => ?_) (fun c => ?_) <;> (conv => whnf)
    · have : k = P.1 := Nat.le_antisymm h1 (t_kge hs c (by omega) (by omega))
      subst this
      clear ih
      repeat' (first
        | ((with_reducible refine @And.intro (vp_in _ _) _ ?_ ?_); (· (first | with_reducible assumption | ((with_reducible refine t_vin ?_); decide) | ((with_reducible refine vp_in_nI ?_ ?_) <;> first | omega | decide) | (simp (disch := omega) only [xl_n, xl_m, nI_dec, nI_sb, nI_add, pk_mul]; (with_reducible refine vp_in_nI ?_ ?_) <;> first | omega | decide))); (conv => whnf))
        | (refine And.intro (by first | with_reducible assumption | exact (show cL _ _ = _ from rfl) | decide) ?_; (conv => whnf))
        | ((with_reducible refine @And.intro (_ = _) _ ?_ ?_); (· rfl); (conv => whnf))
        | ((with_reducible refine @And.intro (@LE.le Nat _ _ _) _ ?_ ?_); (· (first | exact Nat.zero_le _ | exact Nat.le_of_ble_eq_true rfl | omega)); (conv => whnf))
        | ((with_reducible refine @And.intro (@LT.lt Nat _ _ _) _ ?_ ?_); (· omega); (conv => whnf))
        | ((with_reducible refine @And.intro (∃ _, _ = _) _ ?_ ?_); (· exact ⟨_, rfl⟩); (conv => whnf))
        | ((with_reducible refine @And.intro (_ ∨ _) _ ?_ ?_); (· (first | exact Or.inl rfl | exact Or.inr rfl | exact t_b01 _ | assumption)); (conv => whnf))
        | ((with_reducible refine @And.intro (¬ (_ = _)) _ ?_ ?_); (· first | assumption | (with_reducible assumption)); (conv => whnf))
        | (refine hX _ _ _ _ _ _ ?_; (conv => whnf); fail_if_success show False)
        | (rw [c_si]; (conv => whnf))
        | (refine ⟨_, rfl, ?_⟩; (conv => whnf))
        | (refine ⟨_, _, rfl, ?_⟩; (conv => whnf))
        | (refine ⟨_, _, _, rfl, ?_⟩; (conv => whnf))
        | (refine ⟨_, _, _, _, rfl, ?_⟩; (conv => whnf))
        | (refine And.intro (fun c => ?_) (fun c => ?_) <;> (first | (exact absurd c (by decide +kernel)) | (conv => whnf)))
        | fail)
      exact hQ M hM
    · have hk : k < P.1 := t_klt hs c (by omega)
      repeat' (first
        | ((with_reducible refine @And.intro (vp_in _ _) _ ?_ ?_); (· (first | with_reducible assumption | ((with_reducible refine t_vin ?_); decide) | ((with_reducible refine vp_in_nI ?_ ?_) <;> first | omega | decide) | (simp (disch := omega) only [xl_n, xl_m, nI_dec, nI_sb, nI_add, pk_mul]; (with_reducible refine vp_in_nI ?_ ?_) <;> first | omega | decide))); (conv => whnf))
        | (refine And.intro (by first | with_reducible assumption | exact (show cL _ _ = _ from rfl) | decide) ?_; (conv => whnf))
        | ((with_reducible refine @And.intro (_ = _) _ ?_ ?_); (· rfl); (conv => whnf))
        | ((with_reducible refine @And.intro (@LE.le Nat _ _ _) _ ?_ ?_); (· (first | exact Nat.zero_le _ | exact Nat.le_of_ble_eq_true rfl | omega)); (conv => whnf))
        | ((with_reducible refine @And.intro (@LT.lt Nat _ _ _) _ ?_ ?_); (· omega); (conv => whnf))
        | ((with_reducible refine @And.intro (∃ _, _ = _) _ ?_ ?_); (· exact ⟨_, rfl⟩); (conv => whnf))
        | ((with_reducible refine @And.intro (_ ∨ _) _ ?_ ?_); (· (first | exact Or.inl rfl | exact Or.inr rfl | exact t_b01 _ | assumption)); (conv => whnf))
        | ((with_reducible refine @And.intro (¬ (_ = _)) _ ?_ ?_); (· first | assumption | (with_reducible assumption)); (conv => whnf))
        | (refine hX _ _ _ _ _ _ ?_; (conv => whnf); fail_if_success show False)
        | (rw [c_si]; (conv => whnf))
        | (refine ⟨_, rfl, ?_⟩; (conv => whnf))
        | (refine ⟨_, _, rfl, ?_⟩; (conv => whnf))
        | (refine ⟨_, _, _, rfl, ?_⟩; (conv => whnf))
        | (refine ⟨_, _, _, _, rfl, ?_⟩; (conv => whnf))
        | (refine ⟨r,k,L,al,rfl,hr,hgM,hkM,hk,halM,?_⟩; (conv => whnf))
        | fail)
      intro J hJ _
      rw [eG, hM.A (by omega) (by omega) (by omega)]
      have nx := ih (k + 1) (by omega) (by omega) J (hM.tr hJ)
      rw [t_or_s] at nx
      clear ih hQ
      (conv => whnf)
      repeat' (first
        | ((with_reducible refine @And.intro (vp_in _ _) _ ?_ ?_); (· (first | with_reducible assumption | ((with_reducible refine t_vin ?_); decide) | ((with_reducible refine vp_in_nI ?_ ?_) <;> first | omega | decide) | (simp (disch := omega) only [xl_n, xl_m, nI_dec, nI_sb, nI_add, pk_mul]; (with_reducible refine vp_in_nI ?_ ?_) <;> first | omega | decide))); (conv => whnf))
        | (refine And.intro (by first | with_reducible assumption | exact (show cL _ _ = _ from rfl) | decide) ?_; (conv => whnf))
        | ((with_reducible refine @And.intro (_ = _) _ ?_ ?_); (· rfl); (conv => whnf))
        | ((with_reducible refine @And.intro (@LE.le Nat _ _ _) _ ?_ ?_); (· (first | exact Nat.zero_le _ | exact Nat.le_of_ble_eq_true rfl | omega)); (conv => whnf))
        | ((with_reducible refine @And.intro (@LT.lt Nat _ _ _) _ ?_ ?_); (· omega); (conv => whnf))
        | ((with_reducible refine @And.intro (∃ _, _ = _) _ ?_ ?_); (· exact ⟨_, rfl⟩); (conv => whnf))
        | ((with_reducible refine @And.intro (_ ∨ _) _ ?_ ?_); (· (first | exact Or.inl rfl | exact Or.inr rfl | exact t_b01 _ | assumption)); (conv => whnf))
        | ((with_reducible refine @And.intro (¬ (_ = _)) _ ?_ ?_); (· first | assumption | (with_reducible assumption)); (conv => whnf))
        | (refine hX _ _ _ _ _ _ ?_; (conv => whnf); fail_if_success show False)
        | (rw [c_si]; (conv => whnf))
        | (refine ⟨_, rfl, ?_⟩; (conv => whnf))
        | (refine ⟨_, _, rfl, ?_⟩; (conv => whnf))
        | (refine ⟨_, _, _, rfl, ?_⟩; (conv => whnf))
        | (refine ⟨_, _, _, _, rfl, ?_⟩; (conv => whnf))
        | (refine And.intro (fun c => ?_) (fun c => ?_) <;> (first | (exact absurd c (by decide +kernel)) | (conv => whnf)))
        | fail)
      all_goals clear hX hG
      all_goals simp (disch := omega) only [xl_n, xl_m, nI_dec, nI_sb, xl_0, xl_1, cW_i, Nat.add_zero, Nat.reduceAdd, Nat.reduceMul, t_bn0, t_bn1, Classical.not_not, t_lt, nI_add, nI_1, pk_mul, nI_clamp, c_si, nI_eq, nI_leI, nM_ne, nM_ne, xm_set, xm_lv0, xm_psh] at *
      all_goals simp_all [t_bit]
  refine ⟨rfl, ?_⟩
  repeat' (first
    | ((with_reducible refine @And.intro (vp_in _ _) _ ?_ ?_); (· (first | with_reducible assumption | ((with_reducible refine t_vin ?_); decide) | ((with_reducible refine vp_in_nI ?_ ?_) <;> first | omega | decide) | (simp (disch := omega) only [xl_n, xl_m, nI_dec, nI_sb, nI_add, pk_mul]; (with_reducible refine vp_in_nI ?_ ?_) <;> first | omega | decide))); (conv => whnf))
    | (refine And.intro (by first | with_reducible assumption | exact (show cL _ _ = _ from rfl) | decide) ?_; (conv => whnf))
    | ((with_reducible refine @And.intro (_ = _) _ ?_ ?_); (· rfl); (conv => whnf))
    | ((with_reducible refine @And.intro (@LE.le Nat _ _ _) _ ?_ ?_); (· (first | exact Nat.zero_le _ | exact Nat.le_of_ble_eq_true rfl | omega)); (conv => whnf))
    | ((with_reducible refine @And.intro (@LT.lt Nat _ _ _) _ ?_ ?_); (· omega); (conv => whnf))
    | ((with_reducible refine @And.intro (∃ _, _ = _) _ ?_ ?_); (· exact ⟨_, rfl⟩); (conv => whnf))
    | ((with_reducible refine @And.intro (_ ∨ _) _ ?_ ?_); (· (first | exact Or.inl rfl | exact Or.inr rfl | exact t_b01 _ | assumption)); (conv => whnf))
    | ((with_reducible refine @And.intro (¬ (_ = _)) _ ?_ ?_); (· first | assumption | (with_reducible assumption)); (conv => whnf))
    | (refine hX _ _ _ _ _ _ ?_; (conv => whnf); fail_if_success show False)
    | (rw [c_si]; (conv => whnf))
    | (refine ⟨_, rfl, ?_⟩; (conv => whnf))
    | (refine ⟨_, _, rfl, ?_⟩; (conv => whnf))
    | (refine ⟨_, _, _, rfl, ?_⟩; (conv => whnf))
    | (refine ⟨_, _, _, _, rfl, ?_⟩; (conv => whnf))
    | (refine And.intro (fun c => ?_) (fun c => ?_) <;> (first | (exact absurd c (by decide +kernel)) | (conv => whnf)))
    | fail)
  exact loop 0 (Nat.zero_le _) I c_cf.rf
theorem ct_X1_playedBy : xm_Ct cI yX1_playedBy (ws_ yX1_playedBy cX1_playedBy 5 (some .int)) 19 0 0 S_X1_playedBy := xm_enter (rt := 0) (init := false) (by decide +kernel) rfl (fun h => by cases h) (Or.inl ⟨rfl, rfl⟩) (oX1_playedBy) body_X1_playedBy
theorem cv_X1_playedBy {own : String} {cc : ByteArray} {fr pc idx : Nat} (hdg : decode cc pc = .ok (.invokevirtual idx, 3)) (hl : xm_ml own idx yX1_playedBy) (hfr : 19 < fr) : xm_CallOK cI own cc fr pc (pc + 3) 3 0 0 (xm_this 0 S_X1_playedBy) := xm_callV 0 cI_good (ct_X1_playedBy) hdg hl q808 qs4 q116 q809 rfl rfl (by decide +kernel) hfr (by decide)
abbrev bX1_played_0 : List xE := [(.aload_n 0, 1, 0, 0, 0), (.aload_n 0, 2, 0, 0, 0), (.getfield 58, 5, 0, 5, 1), (.aload_n 0, 6, 0, 0, 0), (.getfield 58, 9, 0, 5, 1), (.invokevirtual 204, 12, 0, 0, 9), (.invokevirtual 349, 15, 0, 1, 9), (.ireturn, 16, 0, 0, 0)]
abbrev kX1_played : List (Nat × List xE) := [(0, bX1_played_0)]
abbrev lX1_played : List (Nat × Nat × Nat × xS) := [(1, 0, 0, xm_this 7 S_X10_alive), (3, 0, 0, xm_this 0 S_X1_playedBy)]
theorem oX1_played_0  : xm_okb cI RX1 cX1_played false 20 lX1_played bX1_played_0 0 := xo_0 dX1_played_0 rfl trivial (xo_0 dX1_played_1 rfl trivial (xo_1 dX1_played_2 rfl (xm_fg_of (Or.inl q724) (by decide) rfl (by decide) rfl rfl (Or.inl rfl) rfl) (xo_0 dX1_played_5 rfl trivial (xo_1 dX1_played_6 rfl (xm_fg_of (Or.inl q724) (by decide) rfl (by decide) rfl rfl (Or.inl rfl) rfl) (xo_c rfl (cv_X10_alive dX1_played_9 (Or.inl q802) (by decide)) (xo_c rfl (cv_X1_playedBy dX1_played_12 (Or.inl q806) (by decide)) (xo_0 dX1_played_15 rfl trivial (xo_n))))))))
theorem oX1_played  : ∀ q ∈ kX1_played, xm_okb cI RX1 cX1_played false 20 lX1_played q.2 q.1 := by
  intro q hq
  simp only [List.mem_cons, List.not_mem_nil, or_false] at hq
  subst hq
  exact oX1_played_0  
def S_X1_played : xS := cU fun as P Z I Q QX => ∃ L, as = [.ref 0] ∧ c_good P Z I L ∧ g_ok (cG P I L) ∧ c_P P Z L (cG P I L) Q QX (q_played (cG P I L))
theorem body_X1_played : xm_Body 1 0 0 0 [] lX1_played kX1_played S_X1_played := by
  intro X avs w Q QX hX0 hS
  have hG := xm_go [] hX0
  have hX := xm_go [] hX0
  clear hX0
  obtain ⟨P, Z, I, rfl, L, rfl, hg, hk0, hQ⟩ := hS
  have hok := hg.ok
  have h9 := hok.2.1
  have h5 := c_5 (P := P)
  have hi := hg.now.2.2.1
  refine ⟨rfl, ?_⟩
  repeat' (first
    | ((with_reducible refine @And.intro (vp_in _ _) _ ?_ ?_); (· (first | with_reducible assumption | ((with_reducible refine t_vin ?_); decide) | ((with_reducible refine vp_in_nI ?_ ?_) <;> first | omega | decide) | (simp (disch := omega) only [xl_n, xl_m, nI_dec, nI_sb, nI_add, pk_mul]; (with_reducible refine vp_in_nI ?_ ?_) <;> first | omega | decide))); (conv => whnf))
    | (refine And.intro (by first | with_reducible assumption | exact (show cL _ _ = _ from rfl) | decide) ?_; (conv => whnf))
    | ((with_reducible refine @And.intro (_ = _) _ ?_ ?_); (· rfl); (conv => whnf))
    | ((with_reducible refine @And.intro (@LE.le Nat _ _ _) _ ?_ ?_); (· (first | exact Nat.zero_le _ | exact Nat.le_of_ble_eq_true rfl | omega)); (conv => whnf))
    | ((with_reducible refine @And.intro (@LT.lt Nat _ _ _) _ ?_ ?_); (· omega); (conv => whnf))
    | ((with_reducible refine @And.intro (∃ _, _ = _) _ ?_ ?_); (· exact ⟨_, rfl⟩); (conv => whnf))
    | ((with_reducible refine @And.intro (_ ∨ _) _ ?_ ?_); (· (first | exact Or.inl rfl | exact Or.inr rfl | exact t_b01 _ | assumption)); (conv => whnf))
    | ((with_reducible refine @And.intro (¬ (_ = _)) _ ?_ ?_); (· first | assumption | (with_reducible assumption)); (conv => whnf))
    | (refine hX _ _ _ _ _ _ ?_; (conv => whnf); fail_if_success show False)
    | (rw [c_si]; (conv => whnf))
    | (refine ⟨_, rfl, ?_⟩; (conv => whnf))
    | (refine ⟨_, _, rfl, ?_⟩; (conv => whnf))
    | (refine ⟨_, _, _, rfl, ?_⟩; (conv => whnf))
    | (refine ⟨_, _, _, _, rfl, ?_⟩; (conv => whnf))
    | (refine ⟨5,rfl,h5,hok,hi,?_⟩; (conv => whnf))
    | (refine And.intro (fun c => ?_) (fun c => ?_) <;> (first | (exact absurd c (by decide +kernel)) | (conv => whnf)))
    | fail)
  refine ⟨5, L, _, rfl, h5, hg, hk0, c_al_a h9, fun J hJ => ?_⟩
  rw [c_al (L := L) hi]
  (conv => whnf)
  repeat' (first
    | ((with_reducible refine @And.intro (vp_in _ _) _ ?_ ?_); (· (first | with_reducible assumption | ((with_reducible refine t_vin ?_); decide) | ((with_reducible refine vp_in_nI ?_ ?_) <;> first | omega | decide) | (simp (disch := omega) only [xl_n, xl_m, nI_dec, nI_sb, nI_add, pk_mul]; (with_reducible refine vp_in_nI ?_ ?_) <;> first | omega | decide))); (conv => whnf))
    | (refine And.intro (by first | with_reducible assumption | exact (show cL _ _ = _ from rfl) | decide) ?_; (conv => whnf))
    | ((with_reducible refine @And.intro (_ = _) _ ?_ ?_); (· rfl); (conv => whnf))
    | ((with_reducible refine @And.intro (@LE.le Nat _ _ _) _ ?_ ?_); (· (first | exact Nat.zero_le _ | exact Nat.le_of_ble_eq_true rfl | omega)); (conv => whnf))
    | ((with_reducible refine @And.intro (@LT.lt Nat _ _ _) _ ?_ ?_); (· omega); (conv => whnf))
    | ((with_reducible refine @And.intro (∃ _, _ = _) _ ?_ ?_); (· exact ⟨_, rfl⟩); (conv => whnf))
    | ((with_reducible refine @And.intro (_ ∨ _) _ ?_ ?_); (· (first | exact Or.inl rfl | exact Or.inr rfl | exact t_b01 _ | assumption)); (conv => whnf))
    | ((with_reducible refine @And.intro (¬ (_ = _)) _ ?_ ?_); (· first | assumption | (with_reducible assumption)); (conv => whnf))
    | (refine hX _ _ _ _ _ _ ?_; (conv => whnf); fail_if_success show False)
    | (rw [c_si]; (conv => whnf))
    | (refine ⟨_, rfl, ?_⟩; (conv => whnf))
    | (refine ⟨_, _, rfl, ?_⟩; (conv => whnf))
    | (refine ⟨_, _, _, rfl, ?_⟩; (conv => whnf))
    | (refine ⟨_, _, _, _, rfl, ?_⟩; (conv => whnf))
    | (refine And.intro (fun c => ?_) (fun c => ?_) <;> (first | (exact absurd c (by decide +kernel)) | (conv => whnf)))
    | fail)
  exact c_ask hQ hg hJ.sp rfl
theorem ct_X1_played : xm_Ct cI yX1_played (ws_ yX1_played cX1_played 1 (some .int)) 20 0 0 S_X1_played := xm_enter (rt := 0) (init := false) (by decide +kernel) rfl (fun h => by cases h) (Or.inl ⟨rfl, rfl⟩) (oX1_played) body_X1_played
theorem cv_X1_played {own : String} {cc : ByteArray} {fr pc idx : Nat} (hdg : decode cc pc = .ok (.invokevirtual idx, 3)) (hl : xm_ml own idx yX1_played) (hfr : 20 < fr) : xm_CallOK cI own cc fr pc (pc + 3) 1 0 0 (xm_this 0 S_X1_played) := xm_callV 0 cI_good (ct_X1_played) hdg hl q799 q800 q116 q801 rfl rfl (by decide +kernel) hfr (by decide)
theorem t_ones_or {n : Nat} {p : Nat → Bool} (hn : n ≤ 9) : t_ones (t_or n p) = t_sum n fun k => if p k = true then nI 1 else nI 0 := by
  unfold t_ones
  have e1 : t_sum 9 (fun k => (t_or n p >>> (nI k &&& 31)) &&& nI 1) = t_sum 9 (fun k => if (decide (k < n) && p k) = true then nI 1 else nI 0) := t_sum_c fun k hk => by
    rw [← th_OR (p := p) (show n ≤ 32 by omega) (show k < 32 by omega)]
    rcases t_and1 (t_or n p >>> (nI k &&& 31)) with h | h
    · rw [h, t_has_f h, if_neg (by decide)]
    · rw [h, show t_has (t_or n p) k = true from decide_eq_true h, if_pos rfl]
  rw [e1]
  have : ∀ m, n ≤ m → t_sum m (fun k => if (decide (k < n) && p k) = true then nI 1 else nI 0) = t_sum n fun k => if p k = true then nI 1 else nI 0 := by
    intro m
    induction m with
    | zero =>
      intro h
      rw [show n = 0 by omega]
      rfl
    | succ m ih =>
      intro h
      by_cases e : n = m + 1
      · rw [e]
        exact t_sum_c fun k hk => by rw [decide_eq_true hk, Bool.true_and]
      · rw [t_sum_s, ih (by omega), decide_eq_false (show ¬ m < n by omega), Bool.false_and, if_neg (by decide), show nI 0 = 0 from rfl, Int32.add_zero]
  exact this 9 hn
theorem t_or_nn {n : Nat} {p q : Nat → Bool} (hn : n ≤ 9) : t_or n p &&& (t_or n q ^^^ nM) = t_or n fun k => p k && !q k := th_ext fun k hk => by
  rw [th_and hk, th_not hk, th_OR (by omega) hk, th_OR (by omega) hk, th_OR (by omega) hk]
  cases decide (k < n) <;> simp
abbrev bX1_costOf_0 : List xE := [(.aload_n 0, 1, 0, 0, 0), (.aload_n 0, 2, 0, 0, 0), (.getfield 58, 5, 0, 5, 1), (.aload_n 0, 6, 0, 0, 0), (.getfield 58, 9, 0, 5, 1), (.invokevirtual 204, 12, 0, 0, 9), (.invokevirtual 349, 15, 0, 1, 9), (.aload_n 0, 16, 0, 0, 0), (.aload_n 0, 17, 0, 0, 0), (.getfield 58, 20, 0, 5, 1), (.aload_n 0, 21, 0, 0, 0), (.getfield 58, 24, 0, 5, 1), (.invokevirtual 204, 27, 0, 0, 9), (.iconst 1, 28, 0, 0, 0), (.iload_n 1, 29, 0, 0, 0), (.ishl, 30, 0, 0, 0), (.iconst (-1), 31, 0, 0, 0), (.ixor, 32, 0, 0, 0), (.iand, 33, 0, 0, 0), (.invokevirtual 349, 36, 0, 1, 9), (.iconst (-1), 37, 0, 0, 0), (.ixor, 38, 0, 0, 0), (.iand, 39, 0, 0, 0), (.invokestatic 207, 42, 0, 2, 9), (.ireturn, 43, 0, 0, 0)]
abbrev kX1_costOf : List (Nat × List xE) := [(0, bX1_costOf_0)]
abbrev lX1_costOf : List (Nat × Nat × Nat × xS) := [(1, 0, 0, xm_this 7 S_X10_alive), (3, 0, 0, xm_this 0 S_X1_playedBy), (1, 0, 0, S_J16_bitCount)]
theorem oX1_costOf_0  : xm_okb cI RX1 cX1_costOf false 20 lX1_costOf bX1_costOf_0 0 := xo_0 dX1_costOf_0 rfl trivial (xo_0 dX1_costOf_1 rfl trivial (xo_1 dX1_costOf_2 rfl (xm_fg_of (Or.inl q724) (by decide) rfl (by decide) rfl rfl (Or.inl rfl) rfl) (xo_0 dX1_costOf_5 rfl trivial (xo_1 dX1_costOf_6 rfl (xm_fg_of (Or.inl q724) (by decide) rfl (by decide) rfl rfl (Or.inl rfl) rfl) (xo_c rfl (cv_X10_alive dX1_costOf_9 (Or.inl q802) (by decide)) (xo_c rfl (cv_X1_playedBy dX1_costOf_12 (Or.inl q806) (by decide)) (xo_0 dX1_costOf_15 rfl trivial (xo_0 dX1_costOf_16 rfl trivial (xo_1 dX1_costOf_17 rfl (xm_fg_of (Or.inl q724) (by decide) rfl (by decide) rfl rfl (Or.inl rfl) rfl) (xo_0 dX1_costOf_20 rfl trivial (xo_1 dX1_costOf_21 rfl (xm_fg_of (Or.inl q724) (by decide) rfl (by decide) rfl rfl (Or.inl rfl) rfl) (xo_c rfl (cv_X10_alive dX1_costOf_24 (Or.inl q802) (by decide)) (xo_0 dX1_costOf_27 rfl trivial (xo_0 dX1_costOf_28 rfl trivial (xo_0 dX1_costOf_29 rfl trivial (xo_0 dX1_costOf_30 rfl trivial (xo_0 dX1_costOf_31 rfl trivial (xo_0 dX1_costOf_32 rfl trivial (xo_c rfl (cv_X1_playedBy dX1_costOf_33 (Or.inl q806) (by decide)) (xo_0 dX1_costOf_36 rfl trivial (xo_0 dX1_costOf_37 rfl trivial (xo_0 dX1_costOf_38 rfl trivial (xo_c rfl (cv_J16_bitCount dX1_costOf_39 (Or.inl q846) (by decide)) (xo_0 dX1_costOf_42 rfl trivial (xo_n)))))))))))))))))))))))))
theorem oX1_costOf  : ∀ q ∈ kX1_costOf, xm_okb cI RX1 cX1_costOf false 20 lX1_costOf q.2 q.1 := by
  intro q hq
  simp only [List.mem_cons, List.not_mem_nil, or_false] at hq
  subst hq
  exact oX1_costOf_0  
def S_X1_costOf : xS := cU fun as P Z I Q QX => ∃ (h : Nat) (L : List lC), as = [.ref 0, .int (nI h)] ∧ c_good P Z I L ∧ g_ok (cG P I L) ∧ ∀ J, c_cf I J → Q (some (.int (g_cost (cG P I L) h))) J
theorem body_X1_costOf : xm_Body 2 0 0 0 [] lX1_costOf kX1_costOf S_X1_costOf := by
  intro X avs w Q QX hX0 hS
  have hG := xm_go [] hX0
  have hX := xm_go [] hX0
  clear hX0
  obtain ⟨P, Z, I, rfl, h, L, rfl, hg, hk0, hQ⟩ := hS
  have hok := hg.ok
  have h9 := hok.2.1
  have h5 := c_5 (P := P)
  have hi := hg.now.2.2.1
  have h6 := hg.ls.1
  refine ⟨rfl, ?_⟩
  repeat' (first
    | ((with_reducible refine @And.intro (vp_in _ _) _ ?_ ?_); (· (first | with_reducible assumption | ((with_reducible refine t_vin ?_); decide) | ((with_reducible refine vp_in_nI ?_ ?_) <;> first | omega | decide) | (simp (disch := omega) only [xl_n, xl_m, nI_dec, nI_sb, nI_add, pk_mul]; (with_reducible refine vp_in_nI ?_ ?_) <;> first | omega | decide))); (conv => whnf))
    | (refine And.intro (by first | with_reducible assumption | exact (show cL _ _ = _ from rfl) | decide) ?_; (conv => whnf))
    | ((with_reducible refine @And.intro (_ = _) _ ?_ ?_); (· rfl); (conv => whnf))
    | ((with_reducible refine @And.intro (@LE.le Nat _ _ _) _ ?_ ?_); (· (first | exact Nat.zero_le _ | exact Nat.le_of_ble_eq_true rfl | omega)); (conv => whnf))
    | ((with_reducible refine @And.intro (@LT.lt Nat _ _ _) _ ?_ ?_); (· omega); (conv => whnf))
    | ((with_reducible refine @And.intro (∃ _, _ = _) _ ?_ ?_); (· exact ⟨_, rfl⟩); (conv => whnf))
    | ((with_reducible refine @And.intro (_ ∨ _) _ ?_ ?_); (· (first | exact Or.inl rfl | exact Or.inr rfl | exact t_b01 _ | assumption)); (conv => whnf))
    | ((with_reducible refine @And.intro (¬ (_ = _)) _ ?_ ?_); (· first | assumption | (with_reducible assumption)); (conv => whnf))
    | (refine hX _ _ _ _ _ _ ?_; (conv => whnf); fail_if_success show False)
    | (rw [c_si]; (conv => whnf))
    | (refine ⟨_, rfl, ?_⟩; (conv => whnf))
    | (refine ⟨_, _, rfl, ?_⟩; (conv => whnf))
    | (refine ⟨_, _, _, rfl, ?_⟩; (conv => whnf))
    | (refine ⟨_, _, _, _, rfl, ?_⟩; (conv => whnf))
    | (refine ⟨5,rfl,h5,hok,hi,?_⟩; (conv => whnf))
    | (refine And.intro (fun c => ?_) (fun c => ?_) <;> (first | (exact absurd c (by decide +kernel)) | (conv => whnf)))
    | fail)
  refine ⟨5, L, _, rfl, h5, hg, hk0, c_al_a h9, fun J hJ => ?_⟩
  have hgJ := hJ.sp.good hg
  have eG := hJ.sp.G hg
  have hokJ := hgJ.ok
  have hiJ := hgJ.now.2.2.1
  have hkJ : g_ok (cG P J L) := by rw [eG]; exact hk0
  (conv => whnf)
  repeat' (first
    | ((with_reducible refine @And.intro (vp_in _ _) _ ?_ ?_); (· (first | with_reducible assumption | ((with_reducible refine t_vin ?_); decide) | ((with_reducible refine vp_in_nI ?_ ?_) <;> first | omega | decide) | (simp (disch := omega) only [xl_n, xl_m, nI_dec, nI_sb, nI_add, pk_mul]; (with_reducible refine vp_in_nI ?_ ?_) <;> first | omega | decide))); (conv => whnf))
    | (refine And.intro (by first | with_reducible assumption | exact (show cL _ _ = _ from rfl) | decide) ?_; (conv => whnf))
    | ((with_reducible refine @And.intro (_ = _) _ ?_ ?_); (· rfl); (conv => whnf))
    | ((with_reducible refine @And.intro (@LE.le Nat _ _ _) _ ?_ ?_); (· (first | exact Nat.zero_le _ | exact Nat.le_of_ble_eq_true rfl | omega)); (conv => whnf))
    | ((with_reducible refine @And.intro (@LT.lt Nat _ _ _) _ ?_ ?_); (· omega); (conv => whnf))
    | ((with_reducible refine @And.intro (∃ _, _ = _) _ ?_ ?_); (· exact ⟨_, rfl⟩); (conv => whnf))
    | ((with_reducible refine @And.intro (_ ∨ _) _ ?_ ?_); (· (first | exact Or.inl rfl | exact Or.inr rfl | exact t_b01 _ | assumption)); (conv => whnf))
    | ((with_reducible refine @And.intro (¬ (_ = _)) _ ?_ ?_); (· first | assumption | (with_reducible assumption)); (conv => whnf))
    | (refine hX _ _ _ _ _ _ ?_; (conv => whnf); fail_if_success show False)
    | (rw [c_si]; (conv => whnf))
    | (refine ⟨_, rfl, ?_⟩; (conv => whnf))
    | (refine ⟨_, _, rfl, ?_⟩; (conv => whnf))
    | (refine ⟨_, _, _, rfl, ?_⟩; (conv => whnf))
    | (refine ⟨_, _, _, _, rfl, ?_⟩; (conv => whnf))
    | (refine ⟨5,rfl,h5,hokJ,hiJ,?_⟩; (conv => whnf))
    | (refine And.intro (fun c => ?_) (fun c => ?_) <;> (first | (exact absurd c (by decide +kernel)) | (conv => whnf)))
    | fail)
  refine ⟨5, L, _, rfl, h5, hgJ, hkJ, c_al_c hokJ.2.1, fun K hK => ?_⟩
  rw [c_al (L := L) hi, c_al (L := L) hiJ, eG, hJ.A (by omega) (by omega) (by omega), hJ.sp.kp.K hok hg.2.2.2.2.1]
  (conv => whnf)
  have fin := hQ K (hJ.tr hK)
  clear hQ
  have e : g_cost (cG P I L) h = t_ones (t_or P.1 (fun a => g_is (g_casts (cG P I L) (cA I 5) (g_alive (cK I L) (cA I 5)) a)) &&& (t_or P.1 (fun a => g_is (g_casts (cG P I L) (cA I 5) (g_alive (cK I L) (cA I 5) &&& (Int32.ofInt 1 <<< (nI h &&& 31) ^^^ Int32.ofInt (-1))) a)) ^^^ Int32.ofInt (-1))) := by
    rw [xl_m, xl_n.2.1, t_or_nn (by omega), t_ones_or (by omega)]
    rfl
  have m9 : t_m9 (t_or P.1 (fun a => g_is (g_casts (cG P I L) (cA I 5) (g_alive (cK I L) (cA I 5)) a)) &&& (t_or P.1 (fun a => g_is (g_casts (cG P I L) (cA I 5) (g_alive (cK I L) (cA I 5) &&& (Int32.ofInt 1 <<< (nI h &&& 31) ^^^ Int32.ofInt (-1))) a)) ^^^ Int32.ofInt (-1))) := by
    rw [xl_m, t_or_nn (by omega)]
    exact t_or_m9 (by omega)
  rw [e] at fin
  clear e
  repeat' (first
    | ((with_reducible refine @And.intro (vp_in _ _) _ ?_ ?_); (· (first | with_reducible assumption | ((with_reducible refine t_vin ?_); decide) | ((with_reducible refine vp_in_nI ?_ ?_) <;> first | omega | decide) | (simp (disch := omega) only [xl_n, xl_m, nI_dec, nI_sb, nI_add, pk_mul]; (with_reducible refine vp_in_nI ?_ ?_) <;> first | omega | decide))); (conv => whnf))
    | (refine And.intro (by first | with_reducible assumption | exact (show cL _ _ = _ from rfl) | decide) ?_; (conv => whnf))
    | ((with_reducible refine @And.intro (_ = _) _ ?_ ?_); (· rfl); (conv => whnf))
    | ((with_reducible refine @And.intro (@LE.le Nat _ _ _) _ ?_ ?_); (· (first | exact Nat.zero_le _ | exact Nat.le_of_ble_eq_true rfl | omega)); (conv => whnf))
    | ((with_reducible refine @And.intro (@LT.lt Nat _ _ _) _ ?_ ?_); (· omega); (conv => whnf))
    | ((with_reducible refine @And.intro (∃ _, _ = _) _ ?_ ?_); (· exact ⟨_, rfl⟩); (conv => whnf))
    | ((with_reducible refine @And.intro (_ ∨ _) _ ?_ ?_); (· (first | exact Or.inl rfl | exact Or.inr rfl | exact t_b01 _ | assumption)); (conv => whnf))
    | ((with_reducible refine @And.intro (¬ (_ = _)) _ ?_ ?_); (· first | assumption | (with_reducible assumption)); (conv => whnf))
    | (refine hX _ _ _ _ _ _ ?_; (conv => whnf); fail_if_success show False)
    | (rw [c_si]; (conv => whnf))
    | (refine ⟨_, rfl, ?_⟩; (conv => whnf))
    | (refine ⟨_, _, rfl, ?_⟩; (conv => whnf))
    | (refine ⟨_, _, _, rfl, ?_⟩; (conv => whnf))
    | (refine ⟨_, _, _, _, rfl, ?_⟩; (conv => whnf))
    | (refine ⟨_,rfl,m9,?_⟩; (conv => whnf))
    | (refine And.intro (fun c => ?_) (fun c => ?_) <;> (first | (exact absurd c (by decide +kernel)) | (conv => whnf)))
    | fail)
  exact fin
theorem ct_X1_costOf : xm_Ct cI yX1_costOf (ws_ yX1_costOf cX1_costOf 2 (some .int)) 20 0 0 S_X1_costOf := xm_enter (rt := 0) (init := false) (by decide +kernel) rfl (fun h => by cases h) (Or.inl ⟨rfl, rfl⟩) (oX1_costOf) body_X1_costOf
theorem cv_X1_costOf {own : String} {cc : ByteArray} {fr pc idx : Nat} (hdg : decode cc pc = .ok (.invokevirtual idx, 3)) (hl : xm_ml own idx yX1_costOf) (hfr : 20 < fr) : xm_CallOK cI own cc fr pc (pc + 3) 2 0 0 (xm_this 0 S_X1_costOf) := xm_callV 0 cI_good (ct_X1_costOf) hdg hl q862 qs10 q116 q863 rfl rfl (by decide +kernel) hfr (by decide)
abbrev bX1_cost_0 : List xE := [(.aload_n 0, 1, 0, 0, 0), (.iload_n 1, 2, 0, 0, 0), (.invokevirtual 217, 5, 0, 0, 9), (.aload_n 0, 6, 0, 0, 0), (.iload_n 1, 7, 0, 0, 0), (.invokevirtual 353, 10, 0, 1, 9), (.ireturn, 11, 0, 0, 0)]
abbrev kX1_cost : List (Nat × List xE) := [(0, bX1_cost_0)]
abbrev lX1_cost : List (Nat × Nat × Nat × xS) := [(2, 1, 6, xm_this 0 S_X1_needHand), (2, 0, 0, xm_this 0 S_X1_costOf)]
theorem oX1_cost_0  : xm_okb cI RX1 cX1_cost false 21 lX1_cost bX1_cost_0 0 := xo_0 dX1_cost_0 rfl trivial (xo_0 dX1_cost_1 rfl trivial (xo_c rfl (cv_X1_needHand dX1_cost_2 (Or.inl q1576) (by decide)) (xo_0 dX1_cost_5 rfl trivial (xo_0 dX1_cost_6 rfl trivial (xo_c rfl (cv_X1_costOf dX1_cost_7 (Or.inl q860) (by decide)) (xo_0 dX1_cost_10 rfl trivial (xo_n)))))))
theorem oX1_cost  : ∀ q ∈ kX1_cost, xm_okb cI RX1 cX1_cost false 21 lX1_cost q.2 q.1 := by
  intro q hq
  simp only [List.mem_cons, List.not_mem_nil, or_false] at hq
  subst hq
  exact oX1_cost_0  
def S_X1_cost : xS := cU fun as P Z I Q QX => ∃ a L, as = [.ref 0, .int a] ∧ c_good P Z I L ∧ g_ok (cG P I L) ∧ c_P P Z L (cG P I L) Q QX (q_cost (cG P I L) a)
theorem body_X1_cost : xm_Body 2 0 1 6 [] lX1_cost kX1_cost S_X1_cost := by
  intro X avs w Q QX hX0 hS
  have hG := xm_go [] hX0
  have hX := xm_go [] hX0
  clear hX0
  obtain ⟨P, Z, I, rfl, a, L, rfl, hg, hk0, hQ⟩ := hS
  have hok := hg.ok
  have h9 := hok.2.1
  refine ⟨rfl, ?_⟩
  repeat' (first
    | ((with_reducible refine @And.intro (vp_in _ _) _ ?_ ?_); (· (first | with_reducible assumption | ((with_reducible refine t_vin ?_); decide) | ((with_reducible refine vp_in_nI ?_ ?_) <;> first | omega | decide) | (simp (disch := omega) only [xl_n, xl_m, nI_dec, nI_sb, nI_add, pk_mul]; (with_reducible refine vp_in_nI ?_ ?_) <;> first | omega | decide))); (conv => whnf))
    | (refine And.intro (by first | with_reducible assumption | exact (show cL _ _ = _ from rfl) | decide) ?_; (conv => whnf))
    | ((with_reducible refine @And.intro (_ = _) _ ?_ ?_); (· rfl); (conv => whnf))
    | ((with_reducible refine @And.intro (@LE.le Nat _ _ _) _ ?_ ?_); (· (first | exact Nat.zero_le _ | exact Nat.le_of_ble_eq_true rfl | omega)); (conv => whnf))
    | ((with_reducible refine @And.intro (@LT.lt Nat _ _ _) _ ?_ ?_); (· omega); (conv => whnf))
    | ((with_reducible refine @And.intro (∃ _, _ = _) _ ?_ ?_); (· exact ⟨_, rfl⟩); (conv => whnf))
    | ((with_reducible refine @And.intro (_ ∨ _) _ ?_ ?_); (· (first | exact Or.inl rfl | exact Or.inr rfl | exact t_b01 _ | assumption)); (conv => whnf))
    | ((with_reducible refine @And.intro (¬ (_ = _)) _ ?_ ?_); (· first | assumption | (with_reducible assumption)); (conv => whnf))
    | (refine hX _ _ _ _ _ _ ?_; (conv => whnf); fail_if_success show False)
    | (rw [c_si]; (conv => whnf))
    | (refine ⟨_, rfl, ?_⟩; (conv => whnf))
    | (refine ⟨_, _, rfl, ?_⟩; (conv => whnf))
    | (refine ⟨_, _, _, rfl, ?_⟩; (conv => whnf))
    | (refine ⟨_, _, _, _, rfl, ?_⟩; (conv => whnf))
    | (refine ⟨a,rfl,hok,?_⟩; (conv => whnf))
    | fail)
  refine ⟨fun e => ?_, fun e x hx => ?_⟩
  · obtain ⟨h, hh, rfl⟩ := t_in_of (by omega) e
    have f : g_isH (cG P I L) (nI h) = true := e
    rw [q_cost, f, g_ck_t, nI_clamp (by omega)] at hQ
    (conv => whnf)
    repeat' (first
      | ((with_reducible refine @And.intro (vp_in _ _) _ ?_ ?_); (· (first | with_reducible assumption | ((with_reducible refine t_vin ?_); decide) | ((with_reducible refine vp_in_nI ?_ ?_) <;> first | omega | decide) | (simp (disch := omega) only [xl_n, xl_m, nI_dec, nI_sb, nI_add, pk_mul]; (with_reducible refine vp_in_nI ?_ ?_) <;> first | omega | decide))); (conv => whnf))
      | (refine And.intro (by first | with_reducible assumption | exact (show cL _ _ = _ from rfl) | decide) ?_; (conv => whnf))
      | ((with_reducible refine @And.intro (_ = _) _ ?_ ?_); (· rfl); (conv => whnf))
      | ((with_reducible refine @And.intro (@LE.le Nat _ _ _) _ ?_ ?_); (· (first | exact Nat.zero_le _ | exact Nat.le_of_ble_eq_true rfl | omega)); (conv => whnf))
      | ((with_reducible refine @And.intro (@LT.lt Nat _ _ _) _ ?_ ?_); (· omega); (conv => whnf))
      | ((with_reducible refine @And.intro (∃ _, _ = _) _ ?_ ?_); (· exact ⟨_, rfl⟩); (conv => whnf))
      | ((with_reducible refine @And.intro (_ ∨ _) _ ?_ ?_); (· (first | exact Or.inl rfl | exact Or.inr rfl | exact t_b01 _ | assumption)); (conv => whnf))
      | ((with_reducible refine @And.intro (¬ (_ = _)) _ ?_ ?_); (· first | assumption | (with_reducible assumption)); (conv => whnf))
      | (refine hX _ _ _ _ _ _ ?_; (conv => whnf); fail_if_success show False)
      | (rw [c_si]; (conv => whnf))
      | (refine ⟨_, rfl, ?_⟩; (conv => whnf))
      | (refine ⟨_, _, rfl, ?_⟩; (conv => whnf))
      | (refine ⟨_, _, _, rfl, ?_⟩; (conv => whnf))
      | (refine ⟨_, _, _, _, rfl, ?_⟩; (conv => whnf))
      | (refine ⟨h,L,rfl,hg,hk0,?_⟩; (conv => whnf))
      | (refine And.intro (fun c => ?_) (fun c => ?_) <;> (first | (exact absurd c (by decide +kernel)) | (conv => whnf)))
      | fail)
    intro J hJ
    (conv => whnf)
    repeat' (first
      | ((with_reducible refine @And.intro (vp_in _ _) _ ?_ ?_); (· (first | with_reducible assumption | ((with_reducible refine t_vin ?_); decide) | ((with_reducible refine vp_in_nI ?_ ?_) <;> first | omega | decide) | (simp (disch := omega) only [xl_n, xl_m, nI_dec, nI_sb, nI_add, pk_mul]; (with_reducible refine vp_in_nI ?_ ?_) <;> first | omega | decide))); (conv => whnf))
      | (refine And.intro (by first | with_reducible assumption | exact (show cL _ _ = _ from rfl) | decide) ?_; (conv => whnf))
      | ((with_reducible refine @And.intro (_ = _) _ ?_ ?_); (· rfl); (conv => whnf))
      | ((with_reducible refine @And.intro (@LE.le Nat _ _ _) _ ?_ ?_); (· (first | exact Nat.zero_le _ | exact Nat.le_of_ble_eq_true rfl | omega)); (conv => whnf))
      | ((with_reducible refine @And.intro (@LT.lt Nat _ _ _) _ ?_ ?_); (· omega); (conv => whnf))
      | ((with_reducible refine @And.intro (∃ _, _ = _) _ ?_ ?_); (· exact ⟨_, rfl⟩); (conv => whnf))
      | ((with_reducible refine @And.intro (_ ∨ _) _ ?_ ?_); (· (first | exact Or.inl rfl | exact Or.inr rfl | exact t_b01 _ | assumption)); (conv => whnf))
      | ((with_reducible refine @And.intro (¬ (_ = _)) _ ?_ ?_); (· first | assumption | (with_reducible assumption)); (conv => whnf))
      | (refine hX _ _ _ _ _ _ ?_; (conv => whnf); fail_if_success show False)
      | (rw [c_si]; (conv => whnf))
      | (refine ⟨_, rfl, ?_⟩; (conv => whnf))
      | (refine ⟨_, _, rfl, ?_⟩; (conv => whnf))
      | (refine ⟨_, _, _, rfl, ?_⟩; (conv => whnf))
      | (refine ⟨_, _, _, _, rfl, ?_⟩; (conv => whnf))
      | (refine And.intro (fun c => ?_) (fun c => ?_) <;> (first | (exact absurd c (by decide +kernel)) | (conv => whnf)))
      | fail)
    exact c_ask hQ hg hJ.sp rfl
  · exact c_ref0 hQ hg e hx n1_0
theorem ct_X1_cost : xm_Ct cI yX1_cost (ws_ yX1_cost cX1_cost 2 (some .int)) 21 1 6 S_X1_cost := xm_enter (rt := 0) (init := false) (by decide +kernel) rfl (fun h => by cases h) (Or.inl ⟨rfl, rfl⟩) (oX1_cost) body_X1_cost
theorem cv_X1_cost {own : String} {cc : ByteArray} {fr pc idx : Nat} (hdg : decode cc pc = .ok (.invokevirtual idx, 3)) (hl : xm_ml own idx yX1_cost) (hfr : 21 < fr) : xm_CallOK cI own cc fr pc (pc + 3) 2 1 6 (xm_this 0 S_X1_cost) := xm_callV 0 cI_good (ct_X1_cost) hdg hl q1752 q1753 q116 q1754 rfl rfl (by decide +kernel) hfr (by decide)
abbrev bX1_dearest_0 : List xE := [(.iconst (-1), 1, 0, 0, 0), (.istore_n 1, 2, 0, 0, 0), (.iconst 0, 3, 0, 0, 0), (.istore_n 2, 4, 0, 0, 0)]
abbrev bX1_dearest_4 : List xE := [(.iload_n 2, 5, 0, 0, 0), (.aload_n 0, 6, 0, 0, 0), (.getfield 31, 9, 0, 0, 1), (.getfield 126, 12, 1, 11, 0), (.if_icmp .ge 42, 15, 0, 54, 0), (.aload_n 0, 16, 0, 0, 0), (.getfield 58, 19, 0, 5, 1), (.getfield 226, 22, 7, 0, 1), (.iload_n 2, 23, 0, 0, 0), (.iaload, 24, 0, 0, 0), (.iconst 1, 25, 0, 0, 0), (.if_icmp .ne 23, 28, 0, 48, 0), (.iload_n 1, 29, 0, 0, 0), (.iconst (-1), 30, 0, 0, 0), (.if_icmp .eq 16, 33, 0, 46, 0), (.aload_n 0, 34, 0, 0, 0), (.iload_n 2, 35, 0, 0, 0), (.invokevirtual 353, 38, 0, 0, 9), (.aload_n 0, 39, 0, 0, 0), (.iload_n 1, 40, 0, 0, 0), (.invokevirtual 353, 43, 0, 0, 9), (.if_icmp .le 5, 46, 0, 48, 0)]
abbrev bX1_dearest_46 : List xE := [(.iload_n 2, 47, 0, 0, 0), (.istore_n 1, 48, 0, 0, 0)]
abbrev bX1_dearest_48 : List xE := [(.iinc 2 1, 51, 0, 0, 0), (.goto (-47), 54, 0, 4, 0)]
abbrev bX1_dearest_54 : List xE := [(.iload_n 1, 55, 0, 0, 0), (.ireturn, 56, 0, 0, 0)]
abbrev kX1_dearest : List (Nat × List xE) := [(0, bX1_dearest_0), (4, bX1_dearest_4), (46, bX1_dearest_46), (48, bX1_dearest_48), (54, bX1_dearest_54)]
abbrev lX1_dearest : List (Nat × Nat × Nat × xS) := [(2, 0, 0, xm_this 0 S_X1_costOf)]
theorem oX1_dearest_0  : xm_okb cI RX1 cX1_dearest false 21 lX1_dearest bX1_dearest_0 0 := xo_0 dX1_dearest_0 rfl trivial (xo_0 dX1_dearest_1 rfl trivial (xo_0 dX1_dearest_2 rfl trivial (xo_0 dX1_dearest_3 rfl trivial (xo_n))))
theorem oX1_dearest_4  : xm_okb cI RX1 cX1_dearest false 21 lX1_dearest bX1_dearest_4 4 := xo_0 dX1_dearest_4 rfl trivial (xo_0 dX1_dearest_5 rfl trivial (xo_1 dX1_dearest_6 rfl (xm_fg_of (Or.inl q716) (by decide) rfl (by decide) rfl rfl (Or.inl rfl) rfl) (xo_0 dX1_dearest_9 rfl (xm_fg_of (Or.inr ⟨_, q556⟩) (by decide) rfl (by decide) rfl rfl (Or.inl rfl) rfl) (xo_0 dX1_dearest_12 rfl rfl (xo_0 dX1_dearest_15 rfl trivial (xo_1 dX1_dearest_16 rfl (xm_fg_of (Or.inl q724) (by decide) rfl (by decide) rfl rfl (Or.inl rfl) rfl) (xo_1 dX1_dearest_19 rfl (xm_fg_of (Or.inr ⟨_, q663⟩) (by decide) rfl (by decide) rfl rfl (Or.inl rfl) rfl) (xo_0 dX1_dearest_22 rfl trivial (xo_0 dX1_dearest_23 rfl trivial (xo_0 dX1_dearest_24 rfl trivial (xo_0 dX1_dearest_25 rfl rfl (xo_0 dX1_dearest_28 rfl trivial (xo_0 dX1_dearest_29 rfl trivial (xo_0 dX1_dearest_30 rfl rfl (xo_0 dX1_dearest_33 rfl trivial (xo_0 dX1_dearest_34 rfl trivial (xo_c rfl (cv_X1_costOf dX1_dearest_35 (Or.inl q860) (by decide)) (xo_0 dX1_dearest_38 rfl trivial (xo_0 dX1_dearest_39 rfl trivial (xo_c rfl (cv_X1_costOf dX1_dearest_40 (Or.inl q860) (by decide)) (xo_0 dX1_dearest_43 rfl rfl (xo_n))))))))))))))))))))))
theorem oX1_dearest_46  : xm_okb cI RX1 cX1_dearest false 21 lX1_dearest bX1_dearest_46 46 := xo_0 dX1_dearest_46 rfl trivial (xo_0 dX1_dearest_47 rfl trivial (xo_n))
theorem oX1_dearest_48  : xm_okb cI RX1 cX1_dearest false 21 lX1_dearest bX1_dearest_48 48 := xo_0 dX1_dearest_48 rfl trivial (xo_0 dX1_dearest_51 rfl rfl (xo_n))
theorem oX1_dearest_54  : xm_okb cI RX1 cX1_dearest false 21 lX1_dearest bX1_dearest_54 54 := xo_0 dX1_dearest_54 rfl trivial (xo_0 dX1_dearest_55 rfl trivial (xo_n))
theorem oX1_dearest  : ∀ q ∈ kX1_dearest, xm_okb cI RX1 cX1_dearest false 21 lX1_dearest q.2 q.1 := by
  intro q hq
  simp only [List.mem_cons, List.not_mem_nil, or_false] at hq
  rcases hq with rfl | rfl | rfl | rfl | rfl
  · exact oX1_dearest_0  
  · exact oX1_dearest_4  
  · exact oX1_dearest_46  
  · exact oX1_dearest_48  
  · exact oX1_dearest_54  
def S_X1_dearest : xS := cU fun as P Z I Q QX => ∃ L, as = [.ref 0] ∧ c_good P Z I L ∧ g_ok (cG P I L) ∧ c_P P Z L (cG P I L) Q QX (q_dearest (cG P I L))
theorem body_X1_dearest : xm_Body 3 0 0 0 [] lX1_dearest kX1_dearest S_X1_dearest := by
  intro X avs w Q QX hX0 hS
  have hG := xm_go [] hX0
  have hX := xm_go [4,48] hX0
  clear hX0
  obtain ⟨P, Z, I, rfl, L, rfl, hg, hk0, hQ⟩ := hS
  have hok := hg.ok
  obtain ⟨hn, h9, hm, h8⟩ := id hok
  have h5 := c_5 (P := P)
  have hi := hg.now.2.2.1
  have loop : ∀ k, k ≤ c_h I → ∀ M, c_cf I M → X 4 [some (.ref 0), some (.int (t_o (g_dearN (cG P I L) k))), some (.int (nI k))] [] (cW P Z M) 0 0 := by
    refine t_for fun k h1 ih M hM => ?_
    have hgM := hM.sp.good hg
    have eG := hM.sp.G hg
    have hkM : g_ok (cG P M L) := by rw [eG]; exact hk0
    have hnM : M 1 11 = nI (c_h I) := by rw [hM.1 1 (by omega) (by omega) (by omega)]; exact hn
    have x48 : ∀ N, c_cf I N → X 48 [some (.ref 0), some (.int (t_o (g_dearN (cG P I L) (k + 1)))), some (.int (nI k))] [] (cW P Z N) 0 0 ∨ ¬ k < c_h I := fun N hN => by
      by_cases hk : k < c_h I
      · left
        have := ih (k + 1) (by omega) (by omega) N hN
        clear ih
        refine hG _ _ _ _ _ _ ?_
        (conv => whnf)
        repeat' (first
          | ((with_reducible refine @And.intro (vp_in _ _) _ ?_ ?_); (· (first | with_reducible assumption | ((with_reducible refine t_vin ?_); decide) | ((with_reducible refine vp_in_nI ?_ ?_) <;> first | omega | decide) | (simp (disch := omega) only [xl_n, xl_m, nI_dec, nI_sb, nI_add, pk_mul]; (with_reducible refine vp_in_nI ?_ ?_) <;> first | omega | decide))); (conv => whnf))
          | (refine And.intro (by first | with_reducible assumption | exact (show cL _ _ = _ from rfl) | decide) ?_; (conv => whnf))
          | ((with_reducible refine @And.intro (_ = _) _ ?_ ?_); (· rfl); (conv => whnf))
          | ((with_reducible refine @And.intro (@LE.le Nat _ _ _) _ ?_ ?_); (· (first | exact Nat.zero_le _ | exact Nat.le_of_ble_eq_true rfl | omega)); (conv => whnf))
          | ((with_reducible refine @And.intro (@LT.lt Nat _ _ _) _ ?_ ?_); (· omega); (conv => whnf))
          | ((with_reducible refine @And.intro (∃ _, _ = _) _ ?_ ?_); (· exact ⟨_, rfl⟩); (conv => whnf))
          | ((with_reducible refine @And.intro (_ ∨ _) _ ?_ ?_); (· (first | exact Or.inl rfl | exact Or.inr rfl | exact t_b01 _ | assumption)); (conv => whnf))
          | ((with_reducible refine @And.intro (¬ (_ = _)) _ ?_ ?_); (· first | assumption | (with_reducible assumption)); (conv => whnf))
          | (refine hX _ _ _ _ _ _ ?_; (conv => whnf); fail_if_success show False)
          | (rw [c_si]; (conv => whnf))
          | (refine ⟨_, rfl, ?_⟩; (conv => whnf))
          | (refine ⟨_, _, rfl, ?_⟩; (conv => whnf))
          | (refine ⟨_, _, _, rfl, ?_⟩; (conv => whnf))
          | (refine ⟨_, _, _, _, rfl, ?_⟩; (conv => whnf))
          | (refine And.intro (fun c => ?_) (fun c => ?_) <;> (first | (exact absurd c (by decide +kernel)) | (conv => whnf)))
          | fail)
        clear hX hG hQ
        simp (disch := omega) only [xl_n, xl_m, nI_dec, nI_sb, xl_0, xl_1, cW_i, Nat.add_zero, Nat.reduceAdd, Nat.reduceMul, t_bn0, t_bn1, Classical.not_not, t_lt, nI_add, nI_1, pk_mul, nI_clamp, c_si, nI_eq, nI_leI, nM_ne, nM_ne, xm_set] at *
        exact this
      · exact Or.inr hk
    clear ih
    refine hG _ _ _ _ _ _ ?_
    (conv => whnf)
    repeat' (first
      | ((with_reducible refine @And.intro (vp_in _ _) _ ?_ ?_); (· (first | with_reducible assumption | ((with_reducible refine t_vin ?_); decide) | ((with_reducible refine vp_in_nI ?_ ?_) <;> first | omega | decide) | (simp (disch := omega) only [xl_n, xl_m, nI_dec, nI_sb, nI_add, pk_mul]; (with_reducible refine vp_in_nI ?_ ?_) <;> first | omega | decide))); (conv => whnf))
      | (refine And.intro (by first | with_reducible assumption | exact (show cL _ _ = _ from rfl) | decide) ?_; (conv => whnf))
      | ((with_reducible refine @And.intro (_ = _) _ ?_ ?_); (· rfl); (conv => whnf))
      | ((with_reducible refine @And.intro (@LE.le Nat _ _ _) _ ?_ ?_); (· (first | exact Nat.zero_le _ | exact Nat.le_of_ble_eq_true rfl | omega)); (conv => whnf))
      | ((with_reducible refine @And.intro (@LT.lt Nat _ _ _) _ ?_ ?_); (· omega); (conv => whnf))
      | ((with_reducible refine @And.intro (∃ _, _ = _) _ ?_ ?_); (· exact ⟨_, rfl⟩); (conv => whnf))
      | ((with_reducible refine @And.intro (_ ∨ _) _ ?_ ?_); (· (first | exact Or.inl rfl | exact Or.inr rfl | exact t_b01 _ | assumption)); (conv => whnf))
      | ((with_reducible refine @And.intro (¬ (_ = _)) _ ?_ ?_); (· first | assumption | (with_reducible assumption)); (conv => whnf))
      | (refine hX _ _ _ _ _ _ ?_; (conv => whnf); fail_if_success show False)
      | (rw [c_si]; (conv => whnf))
      | (refine ⟨_, rfl, ?_⟩; (conv => whnf))
      | (refine ⟨_, _, rfl, ?_⟩; (conv => whnf))
      | (refine ⟨_, _, _, rfl, ?_⟩; (conv => whnf))
      | (refine ⟨_, _, _, _, rfl, ?_⟩; (conv => whnf))
      | fail)
    refine And.intro (fun c => ?_) (fun c => ?_) <;> (conv => whnf)
    · have : k = c_h I := Nat.le_antisymm h1 (t_kge hnM c (by omega) (by omega))
      subst this
      repeat' (first
        | ((with_reducible refine @And.intro (vp_in _ _) _ ?_ ?_); (· (first | with_reducible assumption | ((with_reducible refine t_vin ?_); decide) | ((with_reducible refine vp_in_nI ?_ ?_) <;> first | omega | decide) | (simp (disch := omega) only [xl_n, xl_m, nI_dec, nI_sb, nI_add, pk_mul]; (with_reducible refine vp_in_nI ?_ ?_) <;> first | omega | decide))); (conv => whnf))
        | (refine And.intro (by first | with_reducible assumption | exact (show cL _ _ = _ from rfl) | decide) ?_; (conv => whnf))
        | ((with_reducible refine @And.intro (_ = _) _ ?_ ?_); (· rfl); (conv => whnf))
        | ((with_reducible refine @And.intro (@LE.le Nat _ _ _) _ ?_ ?_); (· (first | exact Nat.zero_le _ | exact Nat.le_of_ble_eq_true rfl | omega)); (conv => whnf))
        | ((with_reducible refine @And.intro (@LT.lt Nat _ _ _) _ ?_ ?_); (· omega); (conv => whnf))
        | ((with_reducible refine @And.intro (∃ _, _ = _) _ ?_ ?_); (· exact ⟨_, rfl⟩); (conv => whnf))
        | ((with_reducible refine @And.intro (_ ∨ _) _ ?_ ?_); (· (first | exact Or.inl rfl | exact Or.inr rfl | exact t_b01 _ | assumption)); (conv => whnf))
        | ((with_reducible refine @And.intro (¬ (_ = _)) _ ?_ ?_); (· first | assumption | (with_reducible assumption)); (conv => whnf))
        | (refine hX _ _ _ _ _ _ ?_; (conv => whnf); fail_if_success show False)
        | (rw [c_si]; (conv => whnf))
        | (refine ⟨_, rfl, ?_⟩; (conv => whnf))
        | (refine ⟨_, _, rfl, ?_⟩; (conv => whnf))
        | (refine ⟨_, _, _, rfl, ?_⟩; (conv => whnf))
        | (refine ⟨_, _, _, _, rfl, ?_⟩; (conv => whnf))
        | (refine And.intro (fun c => ?_) (fun c => ?_) <;> (first | (exact absurd c (by decide +kernel)) | (conv => whnf)))
        | fail)
      exact c_ask hQ hg hM.sp rfl
    · have hk : k < c_h I := t_klt hnM c (by omega)
      have x48 := fun N hN => (x48 N hN).resolve_right (fun q => q hk)
      rw [g_dearN_s, show g_al (gGK (cG P I L)) (gnow (cG P I L)) k = _ from c_is_ald (L := L) hi hk] at x48
      have e50 : M (10 * 5) (nI k).toNatClampNeg = I (10 * 5) k := by rw [nI_clamp (by omega), hM.1 _ (by omega) (by omega) (by omega)]
      by_cases a1 : I (10 * 5) k = nI 1
      · have d1 : M (10 * 5) (nI k).toNatClampNeg = Int32.ofInt 1 := by rw [e50, a1, xl_n.2.1]
        rw [decide_eq_true a1, Bool.true_and] at x48
        rcases hb : g_dearN (cG P I L) k with _ | z
        · rw [hb] at x48
          have x48 := x48 M hM
          have d2 : t_o none = Int32.ofInt (-1) := xl_m.symm
          repeat' (first
            | ((with_reducible refine @And.intro (vp_in _ _) _ ?_ ?_); (· (first | with_reducible assumption | ((with_reducible refine t_vin ?_); decide) | ((with_reducible refine vp_in_nI ?_ ?_) <;> first | omega | decide) | (simp (disch := omega) only [xl_n, xl_m, nI_dec, nI_sb, nI_add, pk_mul]; (with_reducible refine vp_in_nI ?_ ?_) <;> first | omega | decide))); (conv => whnf))
            | (refine And.intro (by first | with_reducible assumption | exact (show cL _ _ = _ from rfl) | decide) ?_; (conv => whnf))
            | ((with_reducible refine @And.intro (_ = _) _ ?_ ?_); (· rfl); (conv => whnf))
            | ((with_reducible refine @And.intro (@LE.le Nat _ _ _) _ ?_ ?_); (· (first | exact Nat.zero_le _ | exact Nat.le_of_ble_eq_true rfl | omega)); (conv => whnf))
            | ((with_reducible refine @And.intro (@LT.lt Nat _ _ _) _ ?_ ?_); (· omega); (conv => whnf))
            | ((with_reducible refine @And.intro (∃ _, _ = _) _ ?_ ?_); (· exact ⟨_, rfl⟩); (conv => whnf))
            | ((with_reducible refine @And.intro (_ ∨ _) _ ?_ ?_); (· (first | exact Or.inl rfl | exact Or.inr rfl | exact t_b01 _ | assumption)); (conv => whnf))
            | ((with_reducible refine @And.intro (¬ (_ = _)) _ ?_ ?_); (· first | assumption | (with_reducible assumption)); (conv => whnf))
            | (refine hX _ _ _ _ _ _ ?_; (conv => whnf); fail_if_success show False)
            | (rw [c_si]; (conv => whnf))
            | (refine ⟨_, rfl, ?_⟩; (conv => whnf))
            | (refine ⟨_, _, rfl, ?_⟩; (conv => whnf))
            | (refine ⟨_, _, _, rfl, ?_⟩; (conv => whnf))
            | (refine ⟨_, _, _, _, rfl, ?_⟩; (conv => whnf))
            | (rw [c_tl h5]; (conv => whnf))
            | (rw [c_t7 h5]; (conv => whnf))
            | (rw [c_tf h5 (by decide)]; (conv => whnf))
            | (rw [c_t0 h5]; (conv => whnf))
            | (rw [c_t1 h5]; (conv => whnf))
            | (rw [c_t2 h5]; (conv => whnf))
            | (rw [c_t3 h5]; (conv => whnf))
            | (rw [c_t4 h5]; (conv => whnf))
            | (rw [c_t5 h5]; (conv => whnf))
            | (refine And.intro ⟨_, c_tl h5⟩ ?_; (conv => whnf))
            | (refine And.intro (fun c => ?_) (fun c => ?_) <;> (first | (exact absurd c (by decide +kernel)) | (exact absurd c (by assumption)) | (exact False.elim (c (by assumption))) | (conv => whnf)))
            | fail)
          exact x48
        · rw [hb] at x48
          have hz := g_dearN_lt hb
          have d2 : ¬ t_o (some z) = Int32.ofInt (-1) := by
            rw [xl_m]
            exact nM_ne (by omega)
          repeat' (first
            | ((with_reducible refine @And.intro (vp_in _ _) _ ?_ ?_); (· (first | with_reducible assumption | ((with_reducible refine t_vin ?_); decide) | ((with_reducible refine vp_in_nI ?_ ?_) <;> first | omega | decide) | (simp (disch := omega) only [xl_n, xl_m, nI_dec, nI_sb, nI_add, pk_mul]; (with_reducible refine vp_in_nI ?_ ?_) <;> first | omega | decide))); (conv => whnf))
            | (refine And.intro (by first | with_reducible assumption | exact (show cL _ _ = _ from rfl) | decide) ?_; (conv => whnf))
            | ((with_reducible refine @And.intro (_ = _) _ ?_ ?_); (· rfl); (conv => whnf))
            | ((with_reducible refine @And.intro (@LE.le Nat _ _ _) _ ?_ ?_); (· (first | exact Nat.zero_le _ | exact Nat.le_of_ble_eq_true rfl | omega)); (conv => whnf))
            | ((with_reducible refine @And.intro (@LT.lt Nat _ _ _) _ ?_ ?_); (· omega); (conv => whnf))
            | ((with_reducible refine @And.intro (∃ _, _ = _) _ ?_ ?_); (· exact ⟨_, rfl⟩); (conv => whnf))
            | ((with_reducible refine @And.intro (_ ∨ _) _ ?_ ?_); (· (first | exact Or.inl rfl | exact Or.inr rfl | exact t_b01 _ | assumption)); (conv => whnf))
            | ((with_reducible refine @And.intro (¬ (_ = _)) _ ?_ ?_); (· first | assumption | (with_reducible assumption)); (conv => whnf))
            | (refine hX _ _ _ _ _ _ ?_; (conv => whnf); fail_if_success show False)
            | (rw [c_si]; (conv => whnf))
            | (refine ⟨_, rfl, ?_⟩; (conv => whnf))
            | (refine ⟨_, _, rfl, ?_⟩; (conv => whnf))
            | (refine ⟨_, _, _, rfl, ?_⟩; (conv => whnf))
            | (refine ⟨_, _, _, _, rfl, ?_⟩; (conv => whnf))
            | (refine ⟨k,L,rfl,hgM,hkM,?_⟩; (conv => whnf))
            | (rw [c_tl h5]; (conv => whnf))
            | (rw [c_t7 h5]; (conv => whnf))
            | (rw [c_tf h5 (by decide)]; (conv => whnf))
            | (rw [c_t0 h5]; (conv => whnf))
            | (rw [c_t1 h5]; (conv => whnf))
            | (rw [c_t2 h5]; (conv => whnf))
            | (rw [c_t3 h5]; (conv => whnf))
            | (rw [c_t4 h5]; (conv => whnf))
            | (rw [c_t5 h5]; (conv => whnf))
            | (refine And.intro ⟨_, c_tl h5⟩ ?_; (conv => whnf))
            | (refine And.intro (fun c => ?_) (fun c => ?_) <;> (first | (exact absurd c (by decide +kernel)) | (exact absurd c (by assumption)) | (exact False.elim (c (by assumption))) | (conv => whnf)))
            | fail)
          intro J hJ
          have hgJ := hJ.sp.good hgM
          have eGJ := (hM.tr hJ).sp.G hg
          have hkJ : g_ok (cG P J L) := by rw [eGJ]; exact hk0
          (conv => whnf)
          repeat' (first
            | ((with_reducible refine @And.intro (vp_in _ _) _ ?_ ?_); (· (first | with_reducible assumption | ((with_reducible refine t_vin ?_); decide) | ((with_reducible refine vp_in_nI ?_ ?_) <;> first | omega | decide) | (simp (disch := omega) only [xl_n, xl_m, nI_dec, nI_sb, nI_add, pk_mul]; (with_reducible refine vp_in_nI ?_ ?_) <;> first | omega | decide))); (conv => whnf))
            | (refine And.intro (by first | with_reducible assumption | exact (show cL _ _ = _ from rfl) | decide) ?_; (conv => whnf))
            | ((with_reducible refine @And.intro (_ = _) _ ?_ ?_); (· rfl); (conv => whnf))
            | ((with_reducible refine @And.intro (@LE.le Nat _ _ _) _ ?_ ?_); (· (first | exact Nat.zero_le _ | exact Nat.le_of_ble_eq_true rfl | omega)); (conv => whnf))
            | ((with_reducible refine @And.intro (@LT.lt Nat _ _ _) _ ?_ ?_); (· omega); (conv => whnf))
            | ((with_reducible refine @And.intro (∃ _, _ = _) _ ?_ ?_); (· exact ⟨_, rfl⟩); (conv => whnf))
            | ((with_reducible refine @And.intro (_ ∨ _) _ ?_ ?_); (· (first | exact Or.inl rfl | exact Or.inr rfl | exact t_b01 _ | assumption)); (conv => whnf))
            | ((with_reducible refine @And.intro (¬ (_ = _)) _ ?_ ?_); (· first | assumption | (with_reducible assumption)); (conv => whnf))
            | (refine hX _ _ _ _ _ _ ?_; (conv => whnf); fail_if_success show False)
            | (rw [c_si]; (conv => whnf))
            | (refine ⟨_, rfl, ?_⟩; (conv => whnf))
            | (refine ⟨_, _, rfl, ?_⟩; (conv => whnf))
            | (refine ⟨_, _, _, rfl, ?_⟩; (conv => whnf))
            | (refine ⟨_, _, _, _, rfl, ?_⟩; (conv => whnf))
            | (refine ⟨z,L,rfl,hgJ,hkJ,?_⟩; (conv => whnf))
            | fail)
          intro K hK
          rw [eG, eGJ]
          have x48 := x48 K ((hM.tr hJ).tr hK)
          by_cases a2 : g_cost (cG P I L) k ≤ g_cost (cG P I L) z
          · rw [if_neg (show ¬ decide (¬ g_cost (cG P I L) k ≤ g_cost (cG P I L) z) = true by rw [decide_eq_false (fun q => q a2)]; decide)] at x48
            (conv => whnf)
            repeat' (first
              | ((with_reducible refine @And.intro (vp_in _ _) _ ?_ ?_); (· (first | with_reducible assumption | ((with_reducible refine t_vin ?_); decide) | ((with_reducible refine vp_in_nI ?_ ?_) <;> first | omega | decide) | (simp (disch := omega) only [xl_n, xl_m, nI_dec, nI_sb, nI_add, pk_mul]; (with_reducible refine vp_in_nI ?_ ?_) <;> first | omega | decide))); (conv => whnf))
              | (refine And.intro (by first | with_reducible assumption | exact (show cL _ _ = _ from rfl) | decide) ?_; (conv => whnf))
              | ((with_reducible refine @And.intro (_ = _) _ ?_ ?_); (· rfl); (conv => whnf))
              | ((with_reducible refine @And.intro (@LE.le Nat _ _ _) _ ?_ ?_); (· (first | exact Nat.zero_le _ | exact Nat.le_of_ble_eq_true rfl | omega)); (conv => whnf))
              | ((with_reducible refine @And.intro (@LT.lt Nat _ _ _) _ ?_ ?_); (· omega); (conv => whnf))
              | ((with_reducible refine @And.intro (∃ _, _ = _) _ ?_ ?_); (· exact ⟨_, rfl⟩); (conv => whnf))
              | ((with_reducible refine @And.intro (_ ∨ _) _ ?_ ?_); (· (first | exact Or.inl rfl | exact Or.inr rfl | exact t_b01 _ | assumption)); (conv => whnf))
              | ((with_reducible refine @And.intro (¬ (_ = _)) _ ?_ ?_); (· first | assumption | (with_reducible assumption)); (conv => whnf))
              | (refine hX _ _ _ _ _ _ ?_; (conv => whnf); fail_if_success show False)
              | (rw [c_si]; (conv => whnf))
              | (refine ⟨_, rfl, ?_⟩; (conv => whnf))
              | (refine ⟨_, _, rfl, ?_⟩; (conv => whnf))
              | (refine ⟨_, _, _, rfl, ?_⟩; (conv => whnf))
              | (refine ⟨_, _, _, _, rfl, ?_⟩; (conv => whnf))
              | (refine And.intro (fun c => ?_) (fun c => ?_) <;> (first | (exact absurd c (by decide +kernel)) | (exact absurd c (by assumption)) | (exact False.elim (c (by assumption))) | (conv => whnf)))
              | fail)
            exact x48
          · rw [if_pos (show decide (¬ g_cost (cG P I L) k ≤ g_cost (cG P I L) z) = true from decide_eq_true a2)] at x48
            (conv => whnf)
            repeat' (first
              | ((with_reducible refine @And.intro (vp_in _ _) _ ?_ ?_); (· (first | with_reducible assumption | ((with_reducible refine t_vin ?_); decide) | ((with_reducible refine vp_in_nI ?_ ?_) <;> first | omega | decide) | (simp (disch := omega) only [xl_n, xl_m, nI_dec, nI_sb, nI_add, pk_mul]; (with_reducible refine vp_in_nI ?_ ?_) <;> first | omega | decide))); (conv => whnf))
              | (refine And.intro (by first | with_reducible assumption | exact (show cL _ _ = _ from rfl) | decide) ?_; (conv => whnf))
              | ((with_reducible refine @And.intro (_ = _) _ ?_ ?_); (· rfl); (conv => whnf))
              | ((with_reducible refine @And.intro (@LE.le Nat _ _ _) _ ?_ ?_); (· (first | exact Nat.zero_le _ | exact Nat.le_of_ble_eq_true rfl | omega)); (conv => whnf))
              | ((with_reducible refine @And.intro (@LT.lt Nat _ _ _) _ ?_ ?_); (· omega); (conv => whnf))
              | ((with_reducible refine @And.intro (∃ _, _ = _) _ ?_ ?_); (· exact ⟨_, rfl⟩); (conv => whnf))
              | ((with_reducible refine @And.intro (_ ∨ _) _ ?_ ?_); (· (first | exact Or.inl rfl | exact Or.inr rfl | exact t_b01 _ | assumption)); (conv => whnf))
              | ((with_reducible refine @And.intro (¬ (_ = _)) _ ?_ ?_); (· first | assumption | (with_reducible assumption)); (conv => whnf))
              | (refine hX _ _ _ _ _ _ ?_; (conv => whnf); fail_if_success show False)
              | (rw [c_si]; (conv => whnf))
              | (refine ⟨_, rfl, ?_⟩; (conv => whnf))
              | (refine ⟨_, _, rfl, ?_⟩; (conv => whnf))
              | (refine ⟨_, _, _, rfl, ?_⟩; (conv => whnf))
              | (refine ⟨_, _, _, _, rfl, ?_⟩; (conv => whnf))
              | (refine And.intro (fun c => ?_) (fun c => ?_) <;> (first | (exact absurd c (by decide +kernel)) | (exact absurd c (by assumption)) | (exact False.elim (c (by assumption))) | (conv => whnf)))
              | fail)
            exact x48
      · have d1 : ¬ M (10 * 5) (nI k).toNatClampNeg = Int32.ofInt 1 := by rw [e50, xl_n.2.1]; exact a1
        rw [decide_eq_false a1, Bool.false_and, if_neg (by decide)] at x48
        have x48 := x48 M hM
        repeat' (first
          | ((with_reducible refine @And.intro (vp_in _ _) _ ?_ ?_); (· (first | with_reducible assumption | ((with_reducible refine t_vin ?_); decide) | ((with_reducible refine vp_in_nI ?_ ?_) <;> first | omega | decide) | (simp (disch := omega) only [xl_n, xl_m, nI_dec, nI_sb, nI_add, pk_mul]; (with_reducible refine vp_in_nI ?_ ?_) <;> first | omega | decide))); (conv => whnf))
          | (refine And.intro (by first | with_reducible assumption | exact (show cL _ _ = _ from rfl) | decide) ?_; (conv => whnf))
          | ((with_reducible refine @And.intro (_ = _) _ ?_ ?_); (· rfl); (conv => whnf))
          | ((with_reducible refine @And.intro (@LE.le Nat _ _ _) _ ?_ ?_); (· (first | exact Nat.zero_le _ | exact Nat.le_of_ble_eq_true rfl | omega)); (conv => whnf))
          | ((with_reducible refine @And.intro (@LT.lt Nat _ _ _) _ ?_ ?_); (· omega); (conv => whnf))
          | ((with_reducible refine @And.intro (∃ _, _ = _) _ ?_ ?_); (· exact ⟨_, rfl⟩); (conv => whnf))
          | ((with_reducible refine @And.intro (_ ∨ _) _ ?_ ?_); (· (first | exact Or.inl rfl | exact Or.inr rfl | exact t_b01 _ | assumption)); (conv => whnf))
          | ((with_reducible refine @And.intro (¬ (_ = _)) _ ?_ ?_); (· first | assumption | (with_reducible assumption)); (conv => whnf))
          | (refine hX _ _ _ _ _ _ ?_; (conv => whnf); fail_if_success show False)
          | (rw [c_si]; (conv => whnf))
          | (refine ⟨_, rfl, ?_⟩; (conv => whnf))
          | (refine ⟨_, _, rfl, ?_⟩; (conv => whnf))
          | (refine ⟨_, _, _, rfl, ?_⟩; (conv => whnf))
          | (refine ⟨_, _, _, _, rfl, ?_⟩; (conv => whnf))
          | (rw [c_tl h5]; (conv => whnf))
          | (rw [c_t7 h5]; (conv => whnf))
          | (rw [c_tf h5 (by decide)]; (conv => whnf))
          | (rw [c_t0 h5]; (conv => whnf))
          | (rw [c_t1 h5]; (conv => whnf))
          | (rw [c_t2 h5]; (conv => whnf))
          | (rw [c_t3 h5]; (conv => whnf))
          | (rw [c_t4 h5]; (conv => whnf))
          | (rw [c_t5 h5]; (conv => whnf))
          | (refine And.intro ⟨_, c_tl h5⟩ ?_; (conv => whnf))
          | (refine And.intro (fun c => ?_) (fun c => ?_) <;> (first | (exact absurd c (by decide +kernel)) | (exact absurd c (by assumption)) | (exact False.elim (c (by assumption))) | (conv => whnf)))
          | fail)
        exact x48
  refine ⟨rfl, ?_⟩
  repeat' (first
    | ((with_reducible refine @And.intro (vp_in _ _) _ ?_ ?_); (· (first | with_reducible assumption | ((with_reducible refine t_vin ?_); decide) | ((with_reducible refine vp_in_nI ?_ ?_) <;> first | omega | decide) | (simp (disch := omega) only [xl_n, xl_m, nI_dec, nI_sb, nI_add, pk_mul]; (with_reducible refine vp_in_nI ?_ ?_) <;> first | omega | decide))); (conv => whnf))
    | (refine And.intro (by first | with_reducible assumption | exact (show cL _ _ = _ from rfl) | decide) ?_; (conv => whnf))
    | ((with_reducible refine @And.intro (_ = _) _ ?_ ?_); (· rfl); (conv => whnf))
    | ((with_reducible refine @And.intro (@LE.le Nat _ _ _) _ ?_ ?_); (· (first | exact Nat.zero_le _ | exact Nat.le_of_ble_eq_true rfl | omega)); (conv => whnf))
    | ((with_reducible refine @And.intro (@LT.lt Nat _ _ _) _ ?_ ?_); (· omega); (conv => whnf))
    | ((with_reducible refine @And.intro (∃ _, _ = _) _ ?_ ?_); (· exact ⟨_, rfl⟩); (conv => whnf))
    | ((with_reducible refine @And.intro (_ ∨ _) _ ?_ ?_); (· (first | exact Or.inl rfl | exact Or.inr rfl | exact t_b01 _ | assumption)); (conv => whnf))
    | ((with_reducible refine @And.intro (¬ (_ = _)) _ ?_ ?_); (· first | assumption | (with_reducible assumption)); (conv => whnf))
    | (refine hX _ _ _ _ _ _ ?_; (conv => whnf); fail_if_success show False)
    | (rw [c_si]; (conv => whnf))
    | (refine ⟨_, rfl, ?_⟩; (conv => whnf))
    | (refine ⟨_, _, rfl, ?_⟩; (conv => whnf))
    | (refine ⟨_, _, _, rfl, ?_⟩; (conv => whnf))
    | (refine ⟨_, _, _, _, rfl, ?_⟩; (conv => whnf))
    | (refine And.intro (fun c => ?_) (fun c => ?_) <;> (first | (exact absurd c (by decide +kernel)) | (conv => whnf)))
    | fail)
  have fin := loop 0 (Nat.zero_le _) I c_cf.rf
  rw [show t_o (g_dearN (cG P I L) 0) = Int32.ofInt (-1) from xl_m.symm] at fin
  exact fin
theorem ct_X1_dearest : xm_Ct cI yX1_dearest (ws_ yX1_dearest cX1_dearest 3 (some .int)) 21 0 0 S_X1_dearest := xm_enter (rt := 0) (init := false) (by decide +kernel) rfl (fun h => by cases h) (Or.inl ⟨rfl, rfl⟩) (oX1_dearest) body_X1_dearest
theorem cv_X1_dearest {own : String} {cc : ByteArray} {fr pc idx : Nat} (hdg : decode cc pc = .ok (.invokevirtual idx, 3)) (hl : xm_ml own idx yX1_dearest) (hfr : 21 < fr) : xm_CallOK cI own cc fr pc (pc + 3) 1 0 0 (xm_this 0 S_X1_dearest) := xm_callV 0 cI_good (ct_X1_dearest) hdg hl q857 q858 q116 q859 rfl rfl (by decide +kernel) hfr (by decide)
