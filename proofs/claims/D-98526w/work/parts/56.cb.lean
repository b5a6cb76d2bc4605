/-! ===== the reference: casts ===== -/
set_option maxRecDepth 100000
theorem xm_ct0 {Iv : xI} {y : MethodName} {ws : List Cond} {fr mc ms : Nat} : xm_Ct Iv y ws fr mc ms (fun _ _ _ _ => False) := fun _ _ _ _ _ _ _ _ _ _ _ h => h.elim
/-- the puppets to be cast lie in their places -/
def t_cq (I : tI) (P : gP) : Prop := ∀ i p l, P[i]? = some (p, l) → I 46 i = nI p ∧ I 47 i = l
def t_cp (I : tI) (P : gP) : Prop := I 0 51 = nI P.length ∧ t_cq I P
theorem t_cq_put {I : tI} {P : gP} {p : Nat} {l : Int32} (h : t_cq I P) : t_cq (xm_u2 (xm_u2 I 46 P.length (nI p)) 47 P.length l) (P ++ [(p, l)]) := by
  intro i q m hi
  rcases Nat.lt_or_ge i P.length with c | c
  · rw [List.getElem?_append_left c] at hi
    rw [xm_u2_ne (by decide), xm_u2_at, if_neg (by omega), xm_u2_at, if_neg (by omega), xm_u2_ne (by decide)]
    exact h i q m hi
  · have : i = P.length := by
      have := (List.getElem?_eq_some_iff.mp hi).1
      simp at this
      omega
    subst this
    simp at hi
    obtain ⟨rfl, rfl⟩ := hi
    rw [xm_u2_ne (by decide), xm_u2_at, if_pos rfl, xm_u2_at, if_pos rfl]
    exact ⟨rfl, rfl⟩
theorem t_cq_eq {I J : tI} {P : gP} (h : t_cq I P) (h1 : J 46 = I 46) (h2 : J 47 = I 47) : t_cq J P := by
  unfold t_cq
  rw [h1, h2]
  exact h
def g_actN (G : gG) (a n : Nat) : gP := (List.range n).map fun i => (gpup G a i, glaugh G a)
def g_act (G : gG) (a : Nat) : gP := g_actN G a (gmany G a)
theorem g_actN_s {G : gG} {a n : Nat} : g_actN G a (n + 1) = g_actN G a n ++ [(gpup G a n, glaugh G a)] := by simp [g_actN, List.range_succ]
theorem g_actN_n {G : gG} {a n : Nat} : (g_actN G a n).length = n := by simp [g_actN]
theorem g_actN_in {G : gG} {a n : Nat} {q : Nat × Int32} (h : q ∈ g_actN G a n) : ∃ i, i < n ∧ q = (gpup G a i, glaugh G a) := by
  unfold g_actN at h
  rw [List.mem_map] at h
  obtain ⟨i, h1, rfl⟩ := h
  exact ⟨i, List.mem_range.mp h1, rfl⟩
/-- only what is to be cast is written -/
def t_cg (I J : tI) : Prop := (∀ b, b ≠ 46 → b ≠ 47 → b ≠ 0 → J b = I b) ∧ ∀ k, k ≠ 51 → J 0 k = I 0 k
theorem t_cg.rf {I : tI} : t_cg I I := ⟨fun _ _ _ _ => rfl, fun _ _ => rfl⟩
theorem t_cg.sp {I J : tI} (h : t_cg I J) : t_sp I J := ⟨fun b b0 hf => h.1 b (fun e => hf (by subst e; unfold t_free t_scr; omega)) (fun e => hf (by subst e; unfold t_free t_scr; omega)) b0, fun k _ hk _ => h.2 k (fun e => hk (by subst e; unfold t_scf; omega))⟩
abbrev bX11_sets_0 : List xE := [(.iconst 0, 1, 0, 0, 0), (.istore_n 3, 2, 0, 0, 0)]
abbrev bX11_sets_2 : List xE := [(.iload_n 3, 3, 0, 0, 0), (.aload_n 0, 4, 0, 0, 0), (.getfield 61, 7, 8, 24, 1), (.iload_n 1, 8, 0, 0, 0), (.aaload, 9, 0, 0, 0), (.iconst 1, 10, 0, 0, 0), (.iaload, 11, 0, 0, 0), (.if_icmp .ge 43, 14, 0, 54, 0), (.aload_n 0, 15, 0, 0, 0), (.getfield 106, 18, 8, 46, 1), (.iload_n 2, 19, 0, 0, 0), (.iload_n 3, 20, 0, 0, 0), (.iadd, 21, 0, 0, 0), (.aload_n 0, 22, 0, 0, 0), (.getfield 61, 25, 8, 24, 1), (.iload_n 1, 26, 0, 0, 0), (.aaload, 27, 0, 0, 0), (.iconst 2, 28, 0, 0, 0), (.iload_n 3, 29, 0, 0, 0), (.iadd, 30, 0, 0, 0), (.iaload, 31, 0, 0, 0), (.iastore, 32, 0, 0, 0), (.aload_n 0, 33, 0, 0, 0), (.getfield 109, 36, 8, 47, 1), (.iload_n 2, 37, 0, 0, 0), (.iload_n 3, 38, 0, 0, 0), (.iadd, 39, 0, 0, 0), (.aload_n 0, 40, 0, 0, 0), (.getfield 61, 43, 8, 24, 1), (.iload_n 1, 44, 0, 0, 0), (.aaload, 45, 0, 0, 0), (.iconst 0, 46, 0, 0, 0), (.iaload, 47, 0, 0, 0), (.iastore, 48, 0, 0, 0), (.iinc 3 1, 51, 0, 0, 0), (.goto (-49), 54, 0, 2, 0)]
abbrev bX11_sets_54 : List xE := [(.aload_n 0, 55, 0, 0, 0), (.iload_n 2, 56, 0, 0, 0), (.aload_n 0, 57, 0, 0, 0), (.getfield 61, 60, 8, 24, 1), (.iload_n 1, 61, 0, 0, 0), (.aaload, 62, 0, 0, 0), (.iconst 1, 63, 0, 0, 0), (.iaload, 64, 0, 0, 0), (.iadd, 65, 0, 0, 0), (.putfield 391, 68, 8, 51, 0), (.return_, 69, 0, 0, 0)]
abbrev kX11_sets : List (Nat × List xE) := [(0, bX11_sets_0), (2, bX11_sets_2), (54, bX11_sets_54)]
abbrev lX11_sets : List (Nat × Nat × Nat × xS) := []
theorem oX11_sets_0 {Iv : xI} (hI : xm_good Iv)  : xm_okb Iv RX11 cX11_sets false 1 lX11_sets bX11_sets_0 0 := xo_0 dX11_sets_0 rfl trivial (xo_0 dX11_sets_1 rfl trivial (xo_n))
theorem oX11_sets_2 {Iv : xI} (hI : xm_good Iv)  : xm_okb Iv RX11 cX11_sets false 1 lX11_sets bX11_sets_2 2 := xo_0 dX11_sets_2 rfl trivial (xo_0 dX11_sets_3 rfl trivial (xo_1 dX11_sets_4 rfl (xm_fg_of (Or.inl q1979) (by decide) rfl (by decide) rfl rfl (Or.inl rfl) rfl) (xo_0 dX11_sets_7 rfl trivial (xo_0 dX11_sets_8 rfl trivial (xo_0 dX11_sets_9 rfl trivial (xo_0 dX11_sets_10 rfl trivial (xo_0 dX11_sets_11 rfl rfl (xo_0 dX11_sets_14 rfl trivial (xo_1 dX11_sets_15 rfl (xm_fg_of (Or.inl q2001) (by decide) rfl (by decide) rfl rfl (Or.inl rfl) rfl) (xo_0 dX11_sets_18 rfl trivial (xo_0 dX11_sets_19 rfl trivial (xo_0 dX11_sets_20 rfl trivial (xo_0 dX11_sets_21 rfl trivial (xo_1 dX11_sets_22 rfl (xm_fg_of (Or.inl q1979) (by decide) rfl (by decide) rfl rfl (Or.inl rfl) rfl) (xo_0 dX11_sets_25 rfl trivial (xo_0 dX11_sets_26 rfl trivial (xo_0 dX11_sets_27 rfl trivial (xo_0 dX11_sets_28 rfl trivial (xo_0 dX11_sets_29 rfl trivial (xo_0 dX11_sets_30 rfl trivial (xo_0 dX11_sets_31 rfl trivial (xo_0 dX11_sets_32 rfl trivial (xo_1 dX11_sets_33 rfl (xm_fg_of (Or.inl q2002) (by decide) rfl (by decide) rfl rfl (Or.inl rfl) rfl) (xo_0 dX11_sets_36 rfl trivial (xo_0 dX11_sets_37 rfl trivial (xo_0 dX11_sets_38 rfl trivial (xo_0 dX11_sets_39 rfl trivial (xo_1 dX11_sets_40 rfl (xm_fg_of (Or.inl q1979) (by decide) rfl (by decide) rfl rfl (Or.inl rfl) rfl) (xo_0 dX11_sets_43 rfl trivial (xo_0 dX11_sets_44 rfl trivial (xo_0 dX11_sets_45 rfl trivial (xo_0 dX11_sets_46 rfl trivial (xo_0 dX11_sets_47 rfl trivial (xo_0 dX11_sets_48 rfl trivial (xo_0 dX11_sets_51 rfl rfl (xo_n))))))))))))))))))))))))))))))))))))
theorem oX11_sets_54 {Iv : xI} (hI : xm_good Iv)  : xm_okb Iv RX11 cX11_sets false 1 lX11_sets bX11_sets_54 54 := xo_0 dX11_sets_54 rfl trivial (xo_0 dX11_sets_55 rfl trivial (xo_0 dX11_sets_56 rfl trivial (xo_1 dX11_sets_57 rfl (xm_fg_of (Or.inl q1979) (by decide) rfl (by decide) rfl rfl (Or.inl rfl) rfl) (xo_0 dX11_sets_60 rfl trivial (xo_0 dX11_sets_61 rfl trivial (xo_0 dX11_sets_62 rfl trivial (xo_0 dX11_sets_63 rfl trivial (xo_0 dX11_sets_64 rfl trivial (xo_0 dX11_sets_65 rfl (xm_fp_of (xm_fg_of (Or.inl q2006) (by decide) rfl (by decide) rfl rfl (Or.inl rfl) rfl) (by decide) rfl (Or.inl ⟨rfl, rfl⟩) rfl) (xo_0 dX11_sets_68 rfl trivial (xo_n)))))))))))
theorem oX11_sets {Iv : xI} (hI : xm_good Iv)  : ∀ q ∈ kX11_sets, xm_okb Iv RX11 cX11_sets false 1 lX11_sets q.2 q.1 := by
  intro q hq
  simp only [List.mem_cons, List.not_mem_nil, or_false] at hq
  rcases hq with rfl | rfl | rfl
  · exact oX11_sets_0 hI  
  · exact oX11_sets_2 hI  
  · exact oX11_sets_54 hI  
def S_X11_sets : xS := tU fun as I Q => ∃ a P, as = [.ref 0, .int (nI a), .int (nI P.length)] ∧ t_good I ∧ a < t_a I ∧ P.length ≤ 6 ∧ t_cq I P ∧ ∀ J, t_cg I J → t_cp J (P ++ g_act (tG I) a) → Q none J
theorem body_X11_sets : xm_Body 4 2 0 0 [] lX11_sets kX11_sets S_X11_sets := by
  intro X avs w Q QX hX0 hS
  have hG := xm_go [] hX0
  have hX := xm_go [2] hX0
  clear hX0
  obtain ⟨I, rfl, a, P, rfl, hg, ha, hP6, hP, hQ⟩ := hS
  have h6 := hg.1.2.2.2.2.2
  obtain ⟨hm, hm6, -⟩ := hg.2.2.2.2.2.2.1 a ha
  have em : gmany (tG I) a = t_am I a := rfl
  have el : glaugh (tG I) a = I (150 + a) 0 := if_pos ha
  have loop : ∀ k, k ≤ t_am I a → ∀ M, (∀ b, b ≠ 46 → b ≠ 47 → M b = I b) → t_cq M (P ++ g_actN (tG I) a k) → X 2 [some (.ref 0), some (.int (nI a)), some (.int (nI P.length)), some (.int (nI k))] [] (tW M) 0 0 := by
    refine t_for fun k h1 ih M hM hq => ?_
    have hm' : (tW M).2.1 (150 + (nI a).toNatClampNeg) (Int32.ofInt 1).toNatClampNeg = nI (t_am I a) := by
      simp (disch := omega) only [xl_n, nI_clamp, tW_i, hM (150 + a), hm]
    have hl' : M (150 + a) 0 = I (150 + a) 0 := by rw [hM (150 + a) (by omega) (by omega)]
    refine hG _ _ _ _ _ _ ?_
    (conv => whnf)
    repeat' (first
      | ((with_reducible refine @And.intro (vp_in _ _) _ ?_ ?_); (· (first | with_reducible assumption | ((with_reducible refine t_vin ?_); decide) | ((with_reducible refine vp_in_nI ?_ ?_) <;> first | omega | decide) | (simp (disch := omega) only [xl_n, xl_m, nI_dec, nI_sb, nI_add, pk_mul]; (with_reducible refine vp_in_nI ?_ ?_) <;> first | omega | decide))); (conv => whnf))
      | (refine And.intro (by first | with_reducible assumption | exact (show tL _ = _ from rfl) | decide) ?_; (conv => whnf))
      | ((with_reducible refine @And.intro (_ = _) _ ?_ ?_); (· rfl); (conv => whnf))
      | ((with_reducible refine @And.intro (@LE.le Nat _ _ _) _ ?_ ?_); (· (first | exact Nat.zero_le _ | exact Nat.le_of_ble_eq_true rfl | omega)); (conv => whnf))
      | ((with_reducible refine @And.intro (@LT.lt Nat _ _ _) _ ?_ ?_); (· omega); (conv => whnf))
      | ((with_reducible refine @And.intro (∃ _, _ = _) _ ?_ ?_); (· exact ⟨_, rfl⟩); (conv => whnf))
      | ((with_reducible refine @And.intro (_ ∨ _) _ ?_ ?_); (· (first | exact Or.inl rfl | exact Or.inr rfl | exact t_b01 _ | assumption)); (conv => whnf))
      | ((with_reducible refine @And.intro (¬ (_ = _)) _ ?_ ?_); (· first | assumption | (with_reducible assumption)); (conv => whnf))
      | (refine hX _ _ _ _ _ _ ?_; (conv => whnf); fail_if_success show False)
      | (rw [t_si]; (conv => whnf))
      | (refine ⟨_, rfl, ?_⟩; (conv => whnf))
      | (refine ⟨_, _, rfl, ?_⟩; (conv => whnf))
      | (refine ⟨_, _, _, rfl, ?_⟩; (conv => whnf))
      | (refine ⟨_, _, _, _, rfl, ?_⟩; (conv => whnf))
      | (rw [t_l150 (by first | with_reducible assumption | omega | exact vp_lt (by assumption) | (rw [nI_clamp (by omega)]; omega))]; (conv => whnf))
      | fail)
    refine And.intro (fun c => ?_) (fun c => ?_) <;> (conv => whnf)
    · have : k = t_am I a := Nat.le_antisymm h1 (t_kge hm' c (by omega) (by omega))
      subst this
      repeat' (first
        | ((with_reducible refine @And.intro (vp_in _ _) _ ?_ ?_); (· (first | with_reducible assumption | ((with_reducible refine t_vin ?_); decide) | ((with_reducible refine vp_in_nI ?_ ?_) <;> first | omega | decide) | (simp (disch := omega) only [xl_n, xl_m, nI_dec, nI_sb, nI_add, pk_mul]; (with_reducible refine vp_in_nI ?_ ?_) <;> first | omega | decide))); (conv => whnf))
        | (refine And.intro (by first | with_reducible assumption | exact (show tL _ = _ from rfl) | decide) ?_; (conv => whnf))
        | ((with_reducible refine @And.intro (_ = _) _ ?_ ?_); (· rfl); (conv => whnf))
        | ((with_reducible refine @And.intro (@LE.le Nat _ _ _) _ ?_ ?_); (· (first | exact Nat.zero_le _ | exact Nat.le_of_ble_eq_true rfl | omega)); (conv => whnf))
        | ((with_reducible refine @And.intro (@LT.lt Nat _ _ _) _ ?_ ?_); (· omega); (conv => whnf))
        | ((with_reducible refine @And.intro (∃ _, _ = _) _ ?_ ?_); (· exact ⟨_, rfl⟩); (conv => whnf))
        | ((with_reducible refine @And.intro (_ ∨ _) _ ?_ ?_); (· (first | exact Or.inl rfl | exact Or.inr rfl | exact t_b01 _ | assumption)); (conv => whnf))
        | ((with_reducible refine @And.intro (¬ (_ = _)) _ ?_ ?_); (· first | assumption | (with_reducible assumption)); (conv => whnf))
        | (refine hX _ _ _ _ _ _ ?_; (conv => whnf); fail_if_success show False)
        | (rw [t_si]; simp (disch := omega) only [xl_n, xl_m, nI_dec, nI_sb, xl_0, xl_1, tW_i, t_bn0, t_bn1, Classical.not_not, t_lt, nI_add, nI_1, pk_mul, nI_clamp, t_si, nI_eq, nI_leI, nM_ne, nM_ne, xm_u2_ne, xm_u2_at, reduceIte, tK_u, tA_u, Nat.reduceEqDiff]; (conv => whnf))
        | (refine ⟨_, rfl, ?_⟩; (conv => whnf))
        | (refine ⟨_, _, rfl, ?_⟩; (conv => whnf))
        | (refine ⟨_, _, _, rfl, ?_⟩; (conv => whnf))
        | (refine ⟨_, _, _, _, rfl, ?_⟩; (conv => whnf))
        | (rw [t_l150 (by first | with_reducible assumption | omega | exact vp_lt (by assumption) | (rw [nI_clamp (by omega)]; omega))]; (conv => whnf))
        | (refine And.intro (fun c => ?_) (fun c => ?_) <;> (first | (exact absurd c (by decide +kernel)) | (conv => whnf)))
        | fail)
      clear hX hG ih
      rw [hM (150 + a) (by omega) (by omega), hm, nI_add] at *
      refine hQ _ ⟨fun b h1 h2 h3 => ?_, fun k hk => ?_⟩ ⟨?_, ?_⟩
      · rw [← hM b h1 h2]
        exact funext fun j => xm_u2_ne h3 j
      · rw [xm_u2_at, if_neg hk, hM 0 (by decide) (by decide)]
      · rw [xm_u2_at, if_pos rfl]
        show _ = nI (P ++ g_actN (tG I) a (gmany (tG I) a)).length
        rw [List.length_append, g_actN_n]
        rfl
      · exact t_cq_eq hq (funext fun j => xm_u2_ne (by decide) j) (funext fun j => xm_u2_ne (by decide) j)
    · have hk : k < t_am I a := t_klt hm' c (by omega)
      obtain ⟨q1, q2⟩ := tG_pup' hg ha hk
      have hq' : M (150 + a) (2 + k) = nI (gpup (tG I) a k) := by rw [hM (150 + a) (by omega) (by omega)]; exact q2
      have hlen : (P ++ g_actN (tG I) a k).length = P.length + k := by rw [List.length_append, g_actN_n]
      have := ih (k + 1) (by omega) (by omega) (xm_u2 (xm_u2 M 46 (P.length + k) (nI (gpup (tG I) a k))) 47 (P.length + k) (I (150 + a) 0)) (fun b h1 h2 => by
        rw [← hM b h1 h2]
        exact funext fun j => by rw [xm_u2_ne h2, xm_u2_ne h1]) (by
        have h5 := t_cq_put (p := gpup (tG I) a k) (l := glaugh (tG I) a) hq
        rw [hlen, List.append_assoc, ← g_actN_s, el] at h5
        exact h5)
      clear ih
      repeat' (first
        | ((with_reducible refine @And.intro (vp_in _ _) _ ?_ ?_); (· (first | with_reducible assumption | ((with_reducible refine t_vin ?_); decide) | ((with_reducible refine vp_in_nI ?_ ?_) <;> first | omega | decide) | (simp (disch := omega) only [xl_n, xl_m, nI_dec, nI_sb, nI_add, pk_mul]; (with_reducible refine vp_in_nI ?_ ?_) <;> first | omega | decide))); (conv => whnf))
        | (refine And.intro (by first | with_reducible assumption | exact (show tL _ = _ from rfl) | decide) ?_; (conv => whnf))
        | ((with_reducible refine @And.intro (_ = _) _ ?_ ?_); (· rfl); (conv => whnf))
        | ((with_reducible refine @And.intro (@LE.le Nat _ _ _) _ ?_ ?_); (· (first | exact Nat.zero_le _ | exact Nat.le_of_ble_eq_true rfl | omega)); (conv => whnf))
        | ((with_reducible refine @And.intro (@LT.lt Nat _ _ _) _ ?_ ?_); (· omega); (conv => whnf))
        | ((with_reducible refine @And.intro (∃ _, _ = _) _ ?_ ?_); (· exact ⟨_, rfl⟩); (conv => whnf))
        | ((with_reducible refine @And.intro (_ ∨ _) _ ?_ ?_); (· (first | exact Or.inl rfl | exact Or.inr rfl | exact t_b01 _ | assumption)); (conv => whnf))
        | ((with_reducible refine @And.intro (¬ (_ = _)) _ ?_ ?_); (· first | assumption | (with_reducible assumption)); (conv => whnf))
        | (refine hX _ _ _ _ _ _ ?_; (conv => whnf); fail_if_success show False)
        | (rw [t_si]; simp (disch := omega) only [xl_n, xl_m, nI_dec, nI_sb, xl_0, xl_1, tW_i, t_bn0, t_bn1, Classical.not_not, t_lt, nI_add, nI_1, pk_mul, nI_clamp, t_si, nI_eq, nI_leI, nM_ne, nM_ne, xm_u2_ne, xm_u2_at, reduceIte, tK_u, tA_u, Nat.reduceEqDiff]; (conv => whnf))
        | (refine ⟨_, rfl, ?_⟩; (conv => whnf))
        | (refine ⟨_, _, rfl, ?_⟩; (conv => whnf))
        | (refine ⟨_, _, _, rfl, ?_⟩; (conv => whnf))
        | (refine ⟨_, _, _, _, rfl, ?_⟩; (conv => whnf))
        | (rw [t_l150 (by first | with_reducible assumption | omega | exact vp_lt (by assumption) | (rw [nI_clamp (by omega)]; omega))]; (conv => whnf))
        | (refine And.intro (fun c => ?_) (fun c => ?_) <;> (first | (exact absurd c (by decide +kernel)) | (conv => whnf)))
        | fail)
      all_goals clear hX hG hQ
      all_goals simp (disch := omega) only [xl_n, xl_m, nI_dec, nI_sb, xl_0, xl_1, tW_i, t_bn0, t_bn1, Classical.not_not, t_lt, nI_add, nI_1, pk_mul, nI_clamp, t_si, nI_eq, nI_leI, nM_ne, nM_ne, xm_set, xm_lv0, xm_psh, hq', hl', xm_u2_ne] at *
      trace_state
      exact this
  refine ⟨rfl, ?_⟩
  repeat' (first
    | ((with_reducible refine @And.intro (vp_in _ _) _ ?_ ?_); (· (first | with_reducible assumption | ((with_reducible refine t_vin ?_); decide) | ((with_reducible refine vp_in_nI ?_ ?_) <;> first | omega | decide) | (simp (disch := omega) only [xl_n, xl_m, nI_dec, nI_sb, nI_add, pk_mul]; (with_reducible refine vp_in_nI ?_ ?_) <;> first | omega | decide))); (conv => whnf))
    | (refine And.intro (by first | with_reducible assumption | exact (show tL _ = _ from rfl) | decide) ?_; (conv => whnf))
    | ((with_reducible refine @And.intro (_ = _) _ ?_ ?_); (· rfl); (conv => whnf))
    | ((with_reducible refine @And.intro (@LE.le Nat _ _ _) _ ?_ ?_); (· (first | exact Nat.zero_le _ | exact Nat.le_of_ble_eq_true rfl | omega)); (conv => whnf))
    | ((with_reducible refine @And.intro (@LT.lt Nat _ _ _) _ ?_ ?_); (· omega); (conv => whnf))
    | ((with_reducible refine @And.intro (∃ _, _ = _) _ ?_ ?_); (· exact ⟨_, rfl⟩); (conv => whnf))
    | ((with_reducible refine @And.intro (_ ∨ _) _ ?_ ?_); (· (first | exact Or.inl rfl | exact Or.inr rfl | exact t_b01 _ | assumption)); (conv => whnf))
    | ((with_reducible refine @And.intro (¬ (_ = _)) _ ?_ ?_); (· first | assumption | (with_reducible assumption)); (conv => whnf))
    | (refine hX _ _ _ _ _ _ ?_; (conv => whnf); fail_if_success show False)
    | (rw [t_si]; (conv => whnf))
    | (refine ⟨_, rfl, ?_⟩; (conv => whnf))
    | (refine ⟨_, _, rfl, ?_⟩; (conv => whnf))
    | (refine ⟨_, _, _, rfl, ?_⟩; (conv => whnf))
    | (refine ⟨_, _, _, _, rfl, ?_⟩; (conv => whnf))
    | (refine And.intro (fun c => ?_) (fun c => ?_) <;> (first | (exact absurd c (by decide +kernel)) | (conv => whnf)))
    | fail)
  exact loop 0 (Nat.zero_le _) I (fun _ _ _ => rfl) (by simpa [g_actN] using hP)
theorem ct_X11_sets {Iv : xI} (hI : xm_good Iv) : xm_Ct Iv yX11_sets (ws_ yX11_sets cX11_sets 4 none) 1 0 0 S_X11_sets := xm_enter (rt := 2) (init := false) (by decide +kernel) rfl (fun h => by cases h) (Or.inr (Or.inr (Or.inl ⟨rfl, rfl⟩))) (oX11_sets hI) body_X11_sets
theorem cv_X11_sets {Iv : xI} {own : String} {cc : ByteArray} {fr pc idx : Nat} (hI : xm_good Iv) (hdg : decode cc pc = .ok (.invokevirtual idx, 3)) (hl : xm_ml own idx yX11_sets) (hfr : 1 < fr) : xm_CallOK Iv own cc fr pc (pc + 3) 3 0 0 (xm_this 8 S_X11_sets) := xm_callV 8 hI (ct_X11_sets hI) hdg hl q2425 qs101 q145 q2426 rfl rfl (by decide +kernel) hfr (by decide)
